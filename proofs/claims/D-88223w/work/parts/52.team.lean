/-! ===== teams: pictures and the small methods ===== -/
set_option maxRecDepth 100000
def jmin (a b : Int32) : Int32 := if b < a then b else a
def jmax (a b : Int32) : Int32 := if a < b then b else a
section
variable {E : zE} {d : Nat} {M S : zM} {I : Nat → Nat → Int32}
theorem sp_min (a b : Int32) : zCl E d 27 [zi a, zi b] M (Sum.inl (some (zi (jmin a b))), M) := by
  refine zcl_in' zP_J8_min ?_; rw [zn_2_2]
  refine zat_in zP_J8_min zk_J8_min_0 ?_; simp (disch := omega) only [b_J8_min_0, zif, zdr, zkb, mK_wi, mN_wi, mJ_wi, mI_wi, sI_wi, beq_self_eq_true, Bool.true_or, Bool.or_true, Bool.or_false, Bool.and_self, Bool.and_true, Bool.true_and, ↓reduceIte]
  refine ev_th _ (fun h => ?_) (fun h => ?_)
  · refine ev_bk ?_
    refine zat_in zP_J8_min zk_J8_min_9 ?_; simp (disch := omega) only [b_J8_min_9, zc_J8_min_10, b_J8_min_10, zif, zdr, zkb, mK_wi, mN_wi, mJ_wi, mI_wi, sI_wi, beq_self_eq_true, Bool.true_or, Bool.or_true, Bool.or_false, Bool.and_self, Bool.and_true, Bool.true_and, ↓reduceIte]
    rw [show jmin a b = b from if_pos h]
    exact ev_r
  · refine ev_bk ?_
    refine zat_in zP_J8_min zk_J8_min_10 ?_; simp (disch := omega) only [b_J8_min_10, zif, zdr, zkb, mK_wi, mN_wi, mJ_wi, mI_wi, sI_wi, beq_self_eq_true, Bool.true_or, Bool.or_true, Bool.or_false, Bool.and_self, Bool.and_true, Bool.true_and, ↓reduceIte]
    rw [show jmin a b = a from if_neg h]
    exact ev_r
theorem sp_max (a b : Int32) : zCl E d 26 [zi a, zi b] M (Sum.inl (some (zi (jmax a b))), M) := by
  refine zcl_in' zP_J8_max ?_; rw [zn_2_2]
  refine zat_in zP_J8_max zk_J8_max_0 ?_; simp (disch := omega) only [b_J8_max_0, zif, zdr, zkb, mK_wi, mN_wi, mJ_wi, mI_wi, sI_wi, beq_self_eq_true, Bool.true_or, Bool.or_true, Bool.or_false, Bool.and_self, Bool.and_true, Bool.true_and, ↓reduceIte]
  refine ev_th _ (fun h => ?_) (fun h => ?_)
  · refine ev_bk ?_
    refine zat_in zP_J8_max zk_J8_max_9 ?_; simp (disch := omega) only [b_J8_max_9, zc_J8_max_10, b_J8_max_10, zif, zdr, zkb, mK_wi, mN_wi, mJ_wi, mI_wi, sI_wi, beq_self_eq_true, Bool.true_or, Bool.or_true, Bool.or_false, Bool.and_self, Bool.and_true, Bool.true_and, ↓reduceIte]
    rw [show jmax a b = b from if_pos h]
    exact ev_r
  · refine ev_bk ?_
    refine zat_in zP_J8_max zk_J8_max_10 ?_; simp (disch := omega) only [b_J8_max_10, zif, zdr, zkb, mK_wi, mN_wi, mJ_wi, mI_wi, sI_wi, beq_self_eq_true, Bool.true_or, Bool.or_true, Bool.or_false, Bool.and_self, Bool.and_true, Bool.true_and, ↓reduceIte]
    rw [show jmax a b = a from if_neg h]
    exact ev_r
/-- a dog gains -/
theorem sp_X5_gain {t : Nat} {n : Int32} (hK : mK S t = 6) (hB : Nat.ble E.1 t = true) : zCl E (d + 1) 112 [zr (some t), zi n] (zwi S I) (Sum.inl none, zwi S (zup I t 0 (jmin 1000 (I t 0 + n)))) := by
  refine zcl_in' zP_X5_gain ?_; rw [zn_2_2]
  refine zat_in zP_X5_gain zk_X5_gain_0 ?_; simp (disch := omega) only [b_X5_gain_0, zif, zdr, zkb, mK_wi, mN_wi, mJ_wi, mI_wi, sI_wi, beq_self_eq_true, Bool.true_or, Bool.or_true, Bool.or_false, Bool.and_self, Bool.and_true, Bool.true_and, ↓reduceIte, hK, hB]
  refine ev_ci (sp_min _ _) ?_
  simp only [zif, zdr, zkb, mK_wi, mN_wi, mJ_wi, mI_wi, sI_wi, beq_self_eq_true, Bool.true_or, Bool.or_true, Bool.or_false, Bool.and_self, Bool.and_true, Bool.true_and, ↓reduceIte, hK, hB]
  exact ev_r
end
/-! the pictures: rows 0 numbers, 1 strength, 2 state, 3 where, 4 in, 5 away, 6 and 7 gaps, 8 signs by step -/
abbrev zT : Type := Nat → Nat → Int32
def zvl (nd ng i j : Nat) : Prop := (i = 0 ∧ j < 14) ∨ (i = 1 ∧ j < nd) ∨ (i = 2 ∧ j < nd) ∨ (i = 3 ∧ j < nd) ∨ (i = 4 ∧ j < 13) ∨ (i = 5 ∧ j < 13) ∨ (i = 6 ∧ j < ng) ∨ (i = 7 ∧ j < ng) ∨ (i = 8 ∧ j < 2000)
def xsl (j : Nat) : Nat := if j < 12 then j + 1 else if j = 12 then 16 else 19
def xA (t i j : Nat) : Nat := match i with
  | 0 => t
  | 1 => t + 7 + j
  | 2 => t + 7 + j
  | 3 => t + 7 + j
  | 4 => t + 2
  | 5 => t + 3
  | 6 => t + 5
  | 7 => t + 6
  | _ => t + 4
def xK (i j : Nat) : Nat := match i with
  | 0 => xsl j
  | 1 => 0
  | 2 => 1
  | 3 => 2
  | _ => j
def xP (I : Nat → Nat → Int32) (t nd ng : Nat) (T : zT) : Prop := ∀ i j, zvl nd ng i j → I (xA t i j) (xK i j) = T i j
def msl (j : Nat) : Nat := match j with
  | 0 => 0
  | 1 => 13
  | 2 => 14
  | 3 => 3
  | 4 => 4
  | 5 => 5
  | 6 => 6
  | 7 => 7
  | 8 => 2
  | 9 => 8
  | 10 => 9
  | 11 => 10
  | 12 => 11
  | _ => 12
def mA (t i : Nat) : Nat := match i with
  | 0 => t
  | 1 => t + 1
  | 2 => t + 2
  | 3 => t + 3
  | 4 => t + 4
  | 5 => t + 5
  | 6 => t + 8
  | _ => t + 9
def mKk (i j : Nat) : Nat := match i with
  | 0 => msl j
  | _ => j
def mP (I : Nat → Nat → Int32) (t nd ng : Nat) (T : zT) : Prop := ∀ i j, zvl nd ng i j → i ≠ 8 → I (mA t i) (mKk i j) = T i j
theorem xsl_inj {j k : Nat} (hj : j < 14) (hk : k < 14) (h : xsl j = xsl k) : j = k := by
  unfold xsl at h
  split at h <;> split at h <;> (try split at h) <;> (try split at h) <;> omega
theorem msl_inj {j k : Nat} (hj : j < 14) (hk : k < 14) (h : msl j = msl k) : j = k := by
  have : ∀ j, j < 14 → ∀ k, k < 14 → msl j = msl k → j = k := by decide +kernel
  exact this j hj k hk h
theorem xinj {t nd ng i j i' j' : Nat} (h : zvl nd ng i j) (h' : zvl nd ng i' j') (hn : nd ≤ 16) (e1 : xA t i j = xA t i' j') (e2 : xK i j = xK i' j') : i = i' ∧ j = j' := by
  rcases h with ⟨rfl, h⟩ | ⟨rfl, h⟩ | ⟨rfl, h⟩ | ⟨rfl, h⟩ | ⟨rfl, h⟩ | ⟨rfl, h⟩ | ⟨rfl, h⟩ | ⟨rfl, h⟩ | ⟨rfl, h⟩ <;>
    rcases h' with ⟨rfl, h'⟩ | ⟨rfl, h'⟩ | ⟨rfl, h'⟩ | ⟨rfl, h'⟩ | ⟨rfl, h'⟩ | ⟨rfl, h'⟩ | ⟨rfl, h'⟩ | ⟨rfl, h'⟩ | ⟨rfl, h'⟩ <;>
    simp only [xA, xK] at e1 e2 <;> first | exact ⟨rfl, xsl_inj h h' e2⟩ | (exfalso; omega) | exact ⟨rfl, by omega⟩
theorem minj {t nd ng i j i' j' : Nat} (h : zvl nd ng i j) (h' : zvl nd ng i' j') (h8 : i ≠ 8) (h8' : i' ≠ 8) (e1 : mA t i = mA t i') (e2 : mKk i j = mKk i' j') : i = i' ∧ j = j' := by
  rcases h with ⟨rfl, h⟩ | ⟨rfl, h⟩ | ⟨rfl, h⟩ | ⟨rfl, h⟩ | ⟨rfl, h⟩ | ⟨rfl, h⟩ | ⟨rfl, h⟩ | ⟨rfl, h⟩ | ⟨rfl, h⟩ <;>
    rcases h' with ⟨rfl, h'⟩ | ⟨rfl, h'⟩ | ⟨rfl, h'⟩ | ⟨rfl, h'⟩ | ⟨rfl, h'⟩ | ⟨rfl, h'⟩ | ⟨rfl, h'⟩ | ⟨rfl, h'⟩ | ⟨rfl, h'⟩ <;>
    simp only [mA, mKk] at e1 e2 <;> first | exact ⟨rfl, msl_inj h h' e2⟩ | (exfalso; omega) | exact ⟨rfl, by omega⟩ | exact absurd rfl h8
theorem zup_q {α : Type} (f : Nat → Nat → α) (a k : Nat) (v : α) : zup f a k v a k = v := if_pos ⟨rfl, rfl⟩
theorem zup_k {α : Type} {f : Nat → Nat → α} {a k b j : Nat} {v : α} (h : ¬ (b = a ∧ j = k)) : zup f a k v b j = f b j := if_neg h
theorem xP.put {I : Nat → Nat → Int32} {t nd ng : Nat} {T : zT} (h : xP I t nd ng T) {i j : Nat} (hv : zvl nd ng i j) (hn : nd ≤ 16) (v : Int32) : xP (zup I (xA t i j) (xK i j) v) t nd ng (zup T i j v) := by
  intro i' j' hv'
  by_cases e : i' = i ∧ j' = j
  · obtain ⟨rfl, rfl⟩ := e
    rw [zup_q, zup_q]
  · rw [zup_k e, zup_k (fun q => e (by
      obtain ⟨a, b⟩ := xinj hv' hv hn q.1 q.2
      exact ⟨a, b⟩)), h i' j' hv']
theorem mP.put {I : Nat → Nat → Int32} {t nd ng : Nat} {T : zT} (h : mP I t nd ng T) {i j : Nat} (hv : zvl nd ng i j) (h8 : i ≠ 8) (v : Int32) : mP (zup I (mA t i) (mKk i j) v) t nd ng (zup T i j v) := by
  intro i' j' hv' h8'
  by_cases e : i' = i ∧ j' = j
  · obtain ⟨rfl, rfl⟩ := e
    rw [zup_q, zup_q]
  · rw [zup_k e, zup_k (fun q => e (by
      obtain ⟨a, b⟩ := minj hv' hv h8' h8 q.1 q.2
      exact ⟨a, b⟩)), h i' j' hv' h8']
/-! the shapes -/
def xTS (S : zM) (t : Nat) : Prop := (mK S t = 5 ∧ mK S (t + 1) = 105 ∧ mN S (t + 1) = 16 ∧ mJ S t 0 = some (t + 1)) ∧ (mK S (t + 2) = 101 ∧ mN S (t + 2) = 13 ∧ mJ S t 13 = some (t + 2)) ∧ (mK S (t + 3) = 101 ∧ mN S (t + 3) = 13 ∧ mJ S t 14 = some (t + 3)) ∧ (mK S (t + 4) = 101 ∧ mN S (t + 4) = 2000 ∧ mJ S t 15 = some (t + 4)) ∧ (mK S (t + 5) = 101 ∧ mN S (t + 5) = 4 ∧ mJ S t 17 = some (t + 5)) ∧ (mK S (t + 6) = 101 ∧ mN S (t + 6) = 4 ∧ mJ S t 18 = some (t + 6)) ∧ ∀ k, k < 16 → mK S (t + 7 + k) = 6 ∧ mJ S (t + 1) k = some (t + 7 + k)
def mTS (S : zM) (t : Nat) : Prop := mK S t = 8 ∧ (mK S (t + 1) = 101 ∧ mN S (t + 1) = 16 ∧ mJ S t 15 = some (t + 1)) ∧ (mK S (t + 2) = 101 ∧ mN S (t + 2) = 16 ∧ mJ S t 16 = some (t + 2)) ∧ (mK S (t + 3) = 101 ∧ mN S (t + 3) = 16 ∧ mJ S t 17 = some (t + 3)) ∧ (mK S (t + 4) = 101 ∧ mN S (t + 4) = 13 ∧ mJ S t 18 = some (t + 4)) ∧ (mK S (t + 5) = 101 ∧ mN S (t + 5) = 13 ∧ mJ S t 19 = some (t + 5)) ∧ (mK S (t + 6) = 101 ∧ mN S (t + 6) = 2000 ∧ mJ S t 20 = some (t + 6)) ∧ (mK S (t + 7) = 101 ∧ mN S (t + 7) = 2000 ∧ mJ S t 21 = some (t + 7)) ∧ (mK S (t + 8) = 101 ∧ mN S (t + 8) = 4 ∧ mJ S t 22 = some (t + 8)) ∧ (mK S (t + 9) = 101 ∧ mN S (t + 9) = 4 ∧ mJ S t 23 = some (t + 9))
def zfI (lo hi : Nat) (I J : Nat → Nat → Int32) : Prop := ∀ a k, a < lo ∨ hi ≤ a → J a k = I a k
def tcnt (T : zT) (s : Int32) : Nat → Int32
  | 0 => 0
  | k + 1 => tcnt T s k + (if T 2 k = s then 1 else 0)
section
variable {E : zE} {d t nd ng : Nat} {M S : zM} {I : Nat → Nat → Int32} {T : zT}
theorem lp_X4_inState {s : Int32} (hS : xTS S t) (hn : nd ≤ 16) (hP : xP I t nd ng T) (h0 : T 0 0 = Int32.ofNat nd) : ∀ c k : Nat, k + c = nd → zAt E d 99 4 [some (zr (some t)), some (zi s), some (zi (tcnt T s k)), some (zi (Int32.ofNat k))] [] (zwi S I) (Sum.inl (some (zi (tcnt T s nd))), zwi S I) := by
  obtain ⟨⟨q1, q2, q3, q4⟩, -, -, -, -, -, q5⟩ := hS
  have e0 : I t 1 = Int32.ofNat nd := (hP 0 0 (Or.inl ⟨rfl, by omega⟩)).trans h0
  intro c
  induction c with
  | zero =>
    intro k hk
    obtain rfl : k = nd := hk
    refine zat_in zP_X4_inState zk_X4_inState_4 ?_; simp (disch := omega) only [b_X4_inState_4, zif, zdr, zkb, mK_wi, mN_wi, mJ_wi, mI_wi, sI_wi, beq_self_eq_true, Bool.true_or, Bool.or_true, Bool.or_false, Bool.and_self, Bool.and_true, Bool.true_and, ↓reduceIte, q1, e0, i_le, Nat.le_refl]
    refine ev_bk ?_
    refine zat_in zP_X4_inState zk_X4_inState_39 ?_; simp (disch := omega) only [b_X4_inState_39, zif, zdr, zkb, mK_wi, mN_wi, mJ_wi, mI_wi, sI_wi, beq_self_eq_true, Bool.true_or, Bool.or_true, Bool.or_false, Bool.and_self, Bool.and_true, Bool.true_and, ↓reduceIte]
    exact ev_r
  | succ c ih =>
    intro k hk
    have hl : (nd ≤ k) = False := eq_false (by omega)
    obtain ⟨q6, q7⟩ := q5 k (by omega)
    have e1 : I (t + 7 + k) 1 = T 2 k := hP 2 k (Or.inr (Or.inr (Or.inl ⟨rfl, by omega⟩)))
    have hz : zix (Int32.ofNat k) 16 = true := by rw [i_zix (by omega)]; exact decide_eq_true (by omega)
    have := ih (k + 1) (by omega)
    refine zat_in zP_X4_inState zk_X4_inState_4 ?_; simp (disch := omega) only [b_X4_inState_4, zif, zdr, zkb, mK_wi, mN_wi, mJ_wi, mI_wi, sI_wi, beq_self_eq_true, Bool.true_or, Bool.or_true, Bool.or_false, Bool.and_self, Bool.and_true, Bool.true_and, ↓reduceIte, q1, q2, q3, q4, q6, q7, e0, e1, i_le, i_cl, hl, hz, Nat.reduceLeDiff]
    refine ev_th _ (fun h => ?_) (fun h => ?_)
    · refine ev_bk ?_
      refine zat_in zP_X4_inState zk_X4_inState_31 ?_; simp (disch := omega) only [b_X4_inState_31, zif, zdr, zkb, mK_wi, mN_wi, mJ_wi, mI_wi, sI_wi, beq_self_eq_true, Bool.true_or, Bool.or_true, Bool.or_false, Bool.and_self, Bool.and_true, Bool.true_and, ↓reduceIte, i_succ]
      refine ev_bk ?_
      rw [show tcnt T s (k + 1) = tcnt T s k + 1 by simp only [tcnt, h, ↓reduceIte]] at this
      exact this
    · refine ev_bk ?_
      refine zat_in zP_X4_inState zk_X4_inState_30 ?_; simp (disch := omega) only [b_X4_inState_30, zc_X4_inState_31, b_X4_inState_31, zif, zdr, zkb, mK_wi, mN_wi, mJ_wi, mI_wi, sI_wi, beq_self_eq_true, Bool.true_or, Bool.or_true, Bool.or_false, Bool.and_self, Bool.and_true, Bool.true_and, ↓reduceIte, i_succ]
      refine ev_bk ?_
      rw [show tcnt T s (k + 1) = tcnt T s k + 0 by simp only [tcnt, h, ↓reduceIte]] at this
      exact this
theorem sp_X4_inState {s : Int32} (hS : xTS S t) (hn : nd ≤ 16) (hP : xP I t nd ng T) (h0 : T 0 0 = Int32.ofNat nd) : zCl E d 99 [zr (some t), zi s] (zwi S I) (Sum.inl (some (zi (tcnt T s nd))), zwi S I) := by
  refine zcl_in' zP_X4_inState ?_; rw [zn_2_4]
  refine zat_in zP_X4_inState zk_X4_inState_0 ?_
  simp only [b_X4_inState_0]
  exact ev_tl zP_X4_inState zk_X4_inState_4 (lp_X4_inState hS hn hP h0 nd 0 (by omega))
end
