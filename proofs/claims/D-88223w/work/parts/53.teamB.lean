/-! ===== teams: counts, means, the weakest, gains; both sides ===== -/
set_option maxRecDepth 100000
theorem zix_of {k n : Nat} (h : k < n) (hn : n < 2147483648) : zix (Int32.ofNat k) n = true := by
  rw [i_zix (by omega)]
  exact decide_eq_true h
theorem ble_up {B t c : Nat} (h : B ≤ t) : Nat.ble B (t + c) = true := Nat.ble_eq_true_of_le (by omega)
theorem ble_up0 {B t : Nat} (h : B ≤ t) : Nat.ble B t = true := Nat.ble_eq_true_of_le h
theorem ble_up2 {B t c k : Nat} (h : B ≤ t) : Nat.ble B (t + c + k) = true := Nat.ble_eq_true_of_le (by omega)
theorem zfI.rf {lo hi : Nat} {I : Nat → Nat → Int32} : zfI lo hi I I := fun _ _ _ => rfl
theorem zfI.tr {lo hi : Nat} {I J K : Nat → Nat → Int32} (h : zfI lo hi I J) (h2 : zfI lo hi J K) : zfI lo hi I K := fun a k q => (h2 a k q).trans (h a k q)
theorem zfI.put {lo hi : Nat} {I J : Nat → Nat → Int32} (h : zfI lo hi I J) {a k : Nat} {v : Int32} (h1 : lo ≤ a) (h2 : a < hi) : zfI lo hi I (zup J a k v) := fun b j q => by
  rw [zup_k (by omega)]
  exact h b j q
theorem zfI.wide {lo hi lo' hi' : Nat} {I J : Nat → Nat → Int32} (h : zfI lo hi I J) (h1 : lo' ≤ lo) (h2 : hi ≤ hi') : zfI lo' hi' I J := fun a k q => h a k (by omega)
def tsum (T : zT) : Nat → Int32
  | 0 => 0
  | k + 1 => if T 2 k = 0 then tsum T k + T 1 k else tsum T k
def tmean (T : zT) (nd : Nat) : Int32 := if tcnt T 0 nd = 0 then 0 else tsum T nd / tcnt T 0 nd
def tweak (T : zT) : Nat → Option Nat
  | 0 => none
  | k + 1 => if T 2 k = 0 then (match tweak T k with
    | none => some k
    | some b => if T 1 b ≤ T 1 k then some b else some k) else tweak T k
def tgain (n : Int32) (k : Nat) (T : zT) : zT := fun i j => if i = 1 ∧ j < k ∧ T 2 j = 0 then jmin 1000 (T 1 j + n) else T i j
theorem tgain_0 {n : Int32} {T : zT} : tgain n 0 T = T := by
  funext i j
  exact if_neg (by omega)
theorem tgain_s {n : Int32} {k : Nat} {T : zT} (h : T 2 k = 0) : tgain n (k + 1) T = zup (tgain n k T) 1 k (jmin 1000 (T 1 k + n)) := by
  funext i j
  simp only [tgain, zup]
  by_cases e : i = 1 ∧ j = k
  · obtain ⟨rfl, rfl⟩ := e
    simp [h]
  · rw [if_neg e]
    by_cases e2 : i = 1 ∧ j < k ∧ T 2 j = 0
    · rw [if_pos e2, if_pos ⟨e2.1, by omega, e2.2.2⟩]
    · rw [if_neg e2, if_neg (fun q => e2 ⟨q.1, by
        have : j ≠ k := fun q2 => e ⟨q.1, q2⟩
        omega, q.2.2⟩)]
theorem tgain_n {n : Int32} {k : Nat} {T : zT} (h : ¬ T 2 k = 0) : tgain n (k + 1) T = tgain n k T := by
  funext i j
  simp only [tgain]
  by_cases e2 : i = 1 ∧ j < k ∧ T 2 j = 0
  · rw [if_pos e2, if_pos ⟨e2.1, by omega, e2.2.2⟩]
  · rw [if_neg e2, if_neg (fun q => e2 ⟨q.1, by
      have : j ≠ k := fun q2 => h (by rw [← q2]; exact q.2.2)
      omega, q.2.2⟩)]
theorem tgain_1 {n : Int32} {k : Nat} {T : zT} : tgain n k T 1 k = T 1 k := if_neg (by omega)
theorem tgain_i {n : Int32} {k i j : Nat} {T : zT} (h : i ≠ 1) : tgain n k T i j = T i j := if_neg (by omega)
section
variable {E : zE} {d t nd ng : Nat} {M S : zM} {I : Nat → Nat → Int32} {T : zT}
theorem sp_X4_pulling (hS : xTS S t) (hn : nd ≤ 16) (hP : xP I t nd ng T) (h0 : T 0 0 = Int32.ofNat nd) : zCl E (d + 1) 98 [zr (some t)] (zwi S I) (Sum.inl (some (zi (tcnt T 0 nd))), zwi S I) := by
  have q1 := hS.1.1
  refine zcl_in' zP_X4_pulling ?_; rw [zn_1_1]
  refine zat_in zP_X4_pulling zk_X4_pulling_0 ?_; simp (disch := omega) only [b_X4_pulling_0, zif, zdr, zkb, mK_wi, mN_wi, mJ_wi, mI_wi, sI_wi, beq_self_eq_true, Bool.true_or, Bool.or_true, Bool.or_false, Bool.and_self, Bool.and_true, Bool.true_and, ↓reduceIte, q1]
  exact ev_ci (sp_X4_inState hS hn hP h0) ev_r
theorem sp_X4_load (hS : xTS S t) (hn : nd ≤ 16) (hP : xP I t nd ng T) (h0 : T 0 0 = Int32.ofNat nd) : zCl E (d + 1) 100 [zr (some t)] (zwi S I) (Sum.inl (some (zi (T 0 1 + 25 * tcnt T 1 nd))), zwi S I) := by
  have q1 := hS.1.1
  have e1 : I t 2 = T 0 1 := hP 0 1 (Or.inl ⟨rfl, by omega⟩)
  refine zcl_in' zP_X4_load ?_; rw [zn_1_1]
  refine zat_in zP_X4_load zk_X4_load_0 ?_; simp (disch := omega) only [b_X4_load_0, zif, zdr, zkb, mK_wi, mN_wi, mJ_wi, mI_wi, sI_wi, beq_self_eq_true, Bool.true_or, Bool.or_true, Bool.or_false, Bool.and_self, Bool.and_true, Bool.true_and, ↓reduceIte, q1, e1]
  exact ev_ci (sp_X4_inState hS hn hP h0) ev_r
theorem lp_X4_mean (hS : xTS S t) (hn : nd ≤ 16) (hP : xP I t nd ng T) (h0 : T 0 0 = Int32.ofNat nd) : ∀ c k : Nat, k + c = nd → zAt E (d + 2) 97 4 [some (zr (some t)), some (zi (tsum T k)), some (zi (Int32.ofNat k))] [] (zwi S I) (Sum.inl (some (zi (tmean T nd))), zwi S I) := by
  have hS' := hS
  obtain ⟨⟨q1, q2, q3, q4⟩, ⟨qi1, qi2, qi3⟩, ⟨qa1, qa2, qa3⟩, ⟨qs1, qs2, qs3⟩, ⟨qf1, qf2, qf3⟩, ⟨qt1, qt2, qt3⟩, q5⟩ := hS
  have e0 : I t 1 = Int32.ofNat nd := (hP 0 0 (Or.inl ⟨rfl, by omega⟩)).trans h0
  intro c
  induction c with
  | zero =>
    intro k hk
    obtain rfl : k = nd := hk
    refine zat_in zP_X4_mean zk_X4_mean_4 ?_; simp (disch := omega) only [b_X4_mean_4, zc_X4_mean_36, b_X4_mean_36, zif, zdr, zkb, mK_wi, mN_wi, mJ_wi, mI_wi, sI_wi, beq_self_eq_true, Bool.true_or, Bool.or_true, Bool.or_false, Bool.and_self, Bool.and_true, Bool.true_and, ↓reduceIte, q1, q2, q3, q4, qi1, qi2, qi3, qa1, qa2, qa3, qs1, qs2, qs3, qf1, qf2, qf3, qt1, qt2, qt3, e0, i_le, Nat.le_refl]
    refine ev_bk ?_
    refine zat_in zP_X4_mean zk_X4_mean_42 ?_; simp (disch := omega) only [b_X4_mean_42, zif, zdr, zkb, mK_wi, mN_wi, mJ_wi, mI_wi, sI_wi, beq_self_eq_true, Bool.true_or, Bool.or_true, Bool.or_false, Bool.and_self, Bool.and_true, Bool.true_and, ↓reduceIte, q1]
    refine ev_ci (sp_X4_pulling hS' hn hP h0) ?_
    refine ev_th _ (fun h => ?_) (fun h => ?_)
    · refine ev_bk ?_
      refine zat_in zP_X4_mean zk_X4_mean_58 ?_; simp (disch := omega) only [b_X4_mean_58, zif, zdr, zkb, mK_wi, mN_wi, mJ_wi, mI_wi, sI_wi, beq_self_eq_true, Bool.true_or, Bool.or_true, Bool.or_false, Bool.and_self, Bool.and_true, Bool.true_and, ↓reduceIte]
      rw [show tmean T k = 0 from if_pos h]
      exact ev_r
    · refine ev_bk ?_
      have hb : (tcnt T 0 k != 0) = true := by simpa using h
      refine zat_in zP_X4_mean zk_X4_mean_55 ?_; simp (disch := omega) only [b_X4_mean_55, zc_X4_mean_58, b_X4_mean_58, zif, zdr, zkb, mK_wi, mN_wi, mJ_wi, mI_wi, sI_wi, beq_self_eq_true, Bool.true_or, Bool.or_true, Bool.or_false, Bool.and_self, Bool.and_true, Bool.true_and, ↓reduceIte, hb]
      rw [show tmean T k = tsum T k / tcnt T 0 k from if_neg h]
      exact ev_r
  | succ c ih =>
    intro k hk
    have hl : (nd ≤ k) = False := eq_false (by omega)
    obtain ⟨q6, q7⟩ := q5 k (by omega)
    have e1 : I (t + 7 + k) 1 = T 2 k := hP 2 k (Or.inr (Or.inr (Or.inl ⟨rfl, by omega⟩)))
    have e2 : I (t + 7 + k) 0 = T 1 k := hP 1 k (Or.inr (Or.inl ⟨rfl, by omega⟩))
    have hz : zix (Int32.ofNat k) 16 = true := zix_of (by omega) (by omega)
    have := ih (k + 1) (by omega)
    refine zat_in zP_X4_mean zk_X4_mean_4 ?_; simp (disch := omega) only [b_X4_mean_4, zc_X4_mean_36, b_X4_mean_36, zif, zdr, zkb, mK_wi, mN_wi, mJ_wi, mI_wi, sI_wi, beq_self_eq_true, Bool.true_or, Bool.or_true, Bool.or_false, Bool.and_self, Bool.and_true, Bool.true_and, ↓reduceIte, q1, q2, q3, q4, qi1, qi2, qi3, qa1, qa2, qa3, qs1, qs2, qs3, qf1, qf2, qf3, qt1, qt2, qt3, q6, q7, e0, e1, e2, i_le, i_cl, hl, hz, i_succ, Nat.reduceLeDiff]
    refine ev_th _ (fun h => ?_) (fun h => ?_)
    · rw [show tsum T (k + 1) = tsum T k + T 1 k from if_pos h] at this
      exact ev_bk this
    · rw [show tsum T (k + 1) = tsum T k from if_neg h] at this
      refine ev_bk ?_
      refine zat_in zP_X4_mean zk_X4_mean_36 ?_; simp (disch := omega) only [b_X4_mean_36, zif, zdr, zkb, mK_wi, mN_wi, mJ_wi, mI_wi, sI_wi, beq_self_eq_true, Bool.true_or, Bool.or_true, Bool.or_false, Bool.and_self, Bool.and_true, Bool.true_and, ↓reduceIte, i_succ]
      exact ev_bk this
theorem sp_X4_mean (hS : xTS S t) (hn : nd ≤ 16) (hP : xP I t nd ng T) (h0 : T 0 0 = Int32.ofNat nd) : zCl E (d + 2) 97 [zr (some t)] (zwi S I) (Sum.inl (some (zi (tmean T nd))), zwi S I) := by
  refine zcl_in' zP_X4_mean ?_; rw [zn_1_3]
  refine zat_in zP_X4_mean zk_X4_mean_0 ?_
  simp only [b_X4_mean_0]
  exact ev_tl zP_X4_mean zk_X4_mean_4 (lp_X4_mean hS hn hP h0 nd 0 (by omega))
theorem lp_X4_weakest (hS : xTS S t) (hn : nd ≤ 16) (hP : xP I t nd ng T) (h0 : T 0 0 = Int32.ofNat nd) : ∀ c k : Nat, k + c = nd → zAt E d 96 4 [some (zr (some t)), some (zr ((tweak T k).map (t + 7 + ·))), some (zi (Int32.ofNat k))] [] (zwi S I) (Sum.inl (some (zr ((tweak T nd).map (t + 7 + ·)))), zwi S I) := by
  obtain ⟨⟨q1, q2, q3, q4⟩, ⟨qi1, qi2, qi3⟩, ⟨qa1, qa2, qa3⟩, ⟨qs1, qs2, qs3⟩, ⟨qf1, qf2, qf3⟩, ⟨qt1, qt2, qt3⟩, q5⟩ := hS
  have e0 : I t 1 = Int32.ofNat nd := (hP 0 0 (Or.inl ⟨rfl, by omega⟩)).trans h0
  have hw : ∀ k, k ≤ nd → ∀ b, tweak T k = some b → b < k := by
    intro k
    induction k with
    | zero => intro _ b h; cases h
    | succ k ih =>
      intro hk b h
      unfold tweak at h
      split at h
      · split at h
        · cases h; omega
        · rename_i b' hb
          have := ih (by omega) b' hb
          split at h <;> cases h <;> omega
      · have := ih (by omega) b h
        omega
  intro c
  induction c with
  | zero =>
    intro k hk
    obtain rfl : k = nd := hk
    refine zat_in zP_X4_weakest zk_X4_weakest_4 ?_; simp (disch := omega) only [b_X4_weakest_4, zc_X4_weakest_44, b_X4_weakest_44, zc_X4_weakest_51, b_X4_weakest_51, zif, zdr, zkb, mK_wi, mN_wi, mJ_wi, mI_wi, sI_wi, beq_self_eq_true, Bool.true_or, Bool.or_true, Bool.or_false, Bool.and_self, Bool.and_true, Bool.true_and, ↓reduceIte, q1, q2, q3, q4, qi1, qi2, qi3, qa1, qa2, qa3, qs1, qs2, qs3, qf1, qf2, qf3, qt1, qt2, qt3, e0, i_le, Nat.le_refl]
    refine ev_bk ?_
    refine zat_in zP_X4_weakest zk_X4_weakest_57 ?_; simp (disch := omega) only [b_X4_weakest_57, zif, zdr, zkb, mK_wi, mN_wi, mJ_wi, mI_wi, sI_wi, beq_self_eq_true, Bool.true_or, Bool.or_true, Bool.or_false, Bool.and_self, Bool.and_true, Bool.true_and, ↓reduceIte]
    exact ev_r
  | succ c ih =>
    intro k hk
    have hl : (nd ≤ k) = False := eq_false (by omega)
    obtain ⟨q6, q7⟩ := q5 k (by omega)
    have e1 : I (t + 7 + k) 1 = T 2 k := hP 2 k (Or.inr (Or.inr (Or.inl ⟨rfl, by omega⟩)))
    have e2 : I (t + 7 + k) 0 = T 1 k := hP 1 k (Or.inr (Or.inl ⟨rfl, by omega⟩))
    have hz : zix (Int32.ofNat k) 16 = true := zix_of (by omega) (by omega)
    have := ih (k + 1) (by omega)
    have hu : tweak T (k + 1) = if T 2 k = 0 then (match tweak T k with
      | none => some k
      | some b => if T 1 b ≤ T 1 k then some b else some k) else tweak T k := rfl
    rw [hu] at this
    have hw := hw k (by omega)
    generalize tweak T k = w at this hw ⊢
    cases w with
    | none =>
      simp only [Option.map_none]
      refine zat_in zP_X4_weakest zk_X4_weakest_4 ?_; simp (disch := omega) only [b_X4_weakest_4, zc_X4_weakest_44, b_X4_weakest_44, zc_X4_weakest_51, b_X4_weakest_51, zif, zdr, zkb, mK_wi, mN_wi, mJ_wi, mI_wi, sI_wi, beq_self_eq_true, Bool.true_or, Bool.or_true, Bool.or_false, Bool.and_self, Bool.and_true, Bool.true_and, ↓reduceIte, q1, q2, q3, q4, qi1, qi2, qi3, qa1, qa2, qa3, qs1, qs2, qs3, qf1, qf2, qf3, qt1, qt2, qt3, q6, q7, e0, e1, e2, i_le, i_cl, hl, hz, i_succ, Nat.reduceLeDiff]
      refine ev_th _ (fun h => ?_) (fun h => ?_)
      · rw [if_pos h] at this
        refine ev_bk ?_
        refine zat_in zP_X4_weakest zk_X4_weakest_44 ?_; simp (disch := omega) only [b_X4_weakest_44, zc_X4_weakest_51, b_X4_weakest_51, zif, zdr, zkb, mK_wi, mN_wi, mJ_wi, mI_wi, sI_wi, beq_self_eq_true, Bool.true_or, Bool.or_true, Bool.or_false, Bool.and_self, Bool.and_true, Bool.true_and, ↓reduceIte, q1, q2, q3, q4, qi1, qi2, qi3, qa1, qa2, qa3, qs1, qs2, qs3, qf1, qf2, qf3, qt1, qt2, qt3, q7, i_cl, hz, i_succ, Nat.reduceLeDiff]
        exact ev_bk this
      · rw [if_neg h] at this
        refine ev_bk ?_
        refine zat_in zP_X4_weakest zk_X4_weakest_51 ?_; simp (disch := omega) only [b_X4_weakest_51, zif, zdr, zkb, mK_wi, mN_wi, mJ_wi, mI_wi, sI_wi, beq_self_eq_true, Bool.true_or, Bool.or_true, Bool.or_false, Bool.and_self, Bool.and_true, Bool.true_and, ↓reduceIte, i_succ]
        exact ev_bk this
    | some b =>
      have hb := hw b rfl
      obtain ⟨q8, q9⟩ := q5 b (by omega)
      have e3 : I (t + 7 + b) 0 = T 1 b := hP 1 b (Or.inr (Or.inl ⟨rfl, by omega⟩))
      simp only [Option.map_some]
      refine zat_in zP_X4_weakest zk_X4_weakest_4 ?_; simp (disch := omega) only [b_X4_weakest_4, zc_X4_weakest_44, b_X4_weakest_44, zc_X4_weakest_51, b_X4_weakest_51, zif, zdr, zkb, mK_wi, mN_wi, mJ_wi, mI_wi, sI_wi, beq_self_eq_true, Bool.true_or, Bool.or_true, Bool.or_false, Bool.and_self, Bool.and_true, Bool.true_and, ↓reduceIte, q1, q2, q3, q4, qi1, qi2, qi3, qa1, qa2, qa3, qs1, qs2, qs3, qf1, qf2, qf3, qt1, qt2, qt3, q6, q7, q8, e0, e1, e2, e3, i_le, i_cl, hl, hz, i_succ, Nat.reduceLeDiff, reduceCtorEq]
      refine ev_th _ (fun h => ?_) (fun h => ?_)
      · rw [if_pos h] at this
        refine ev_th _ (fun h2 => ?_) (fun h2 => ?_)
        · have this : zAt E d 96 4 [some (zr (some t)), some (zr (Option.map (t + 7 + ·) (if T 1 b ≤ T 1 k then some b else some k))), some (zi (Int32.ofNat (k + 1)))] [] (zwi S I) _ := this
          rw [if_pos h2] at this
          refine ev_bk ?_
          refine zat_in zP_X4_weakest zk_X4_weakest_51 ?_; simp (disch := omega) only [b_X4_weakest_51, zif, zdr, zkb, mK_wi, mN_wi, mJ_wi, mI_wi, sI_wi, beq_self_eq_true, Bool.true_or, Bool.or_true, Bool.or_false, Bool.and_self, Bool.and_true, Bool.true_and, ↓reduceIte, i_succ]
          exact ev_bk this
        · have this : zAt E d 96 4 [some (zr (some t)), some (zr (Option.map (t + 7 + ·) (if T 1 b ≤ T 1 k then some b else some k))), some (zi (Int32.ofNat (k + 1)))] [] (zwi S I) _ := this
          rw [if_neg h2] at this
          exact ev_bk this
      · rw [if_neg h] at this
        refine ev_bk ?_
        refine zat_in zP_X4_weakest zk_X4_weakest_51 ?_; simp (disch := omega) only [b_X4_weakest_51, zif, zdr, zkb, mK_wi, mN_wi, mJ_wi, mI_wi, sI_wi, beq_self_eq_true, Bool.true_or, Bool.or_true, Bool.or_false, Bool.and_self, Bool.and_true, Bool.true_and, ↓reduceIte, i_succ]
        exact ev_bk this
theorem sp_X4_weakest (hS : xTS S t) (hn : nd ≤ 16) (hP : xP I t nd ng T) (h0 : T 0 0 = Int32.ofNat nd) : zCl E d 96 [zr (some t)] (zwi S I) (Sum.inl (some (zr ((tweak T nd).map (t + 7 + ·)))), zwi S I) := by
  refine zcl_in' zP_X4_weakest ?_; rw [zn_1_3]
  refine zat_in zP_X4_weakest zk_X4_weakest_0 ?_
  simp only [b_X4_weakest_0]
  exact ev_tl zP_X4_weakest zk_X4_weakest_4 (lp_X4_weakest hS hn hP h0 nd 0 (by omega))
theorem lp_X4_gain {n : Int32} (hB : E.1 ≤ t) (hS : xTS S t) (hn : nd ≤ 16) (h0 : T 0 0 = Int32.ofNat nd) : ∀ (c k : Nat) (I : Nat → Nat → Int32), k + c = nd → xP I t nd ng (tgain n k T) → ∃ I', zAt E (d + 2) 104 2 [some (zr (some t)), some (zi n), some (zi (Int32.ofNat k))] [] (zwi S I) (Sum.inl none, zwi S I') ∧ xP I' t nd ng (tgain n nd T) ∧ zfI t (t + 23) I I' := by
  obtain ⟨⟨q1, q2, q3, q4⟩, ⟨qi1, qi2, qi3⟩, ⟨qa1, qa2, qa3⟩, ⟨qs1, qs2, qs3⟩, ⟨qf1, qf2, qf3⟩, ⟨qt1, qt2, qt3⟩, q5⟩ := hS
  intro c
  induction c with
  | zero =>
    intro k I hk hP
    obtain rfl : k = nd := hk
    have e0 : I t 1 = Int32.ofNat k := (hP 0 0 (Or.inl ⟨rfl, by omega⟩)).trans ((tgain_i (by omega)).trans h0)
    refine ⟨I, ?_, hP, zfI.rf⟩
    refine zat_in zP_X4_gain zk_X4_gain_2 ?_; simp (disch := omega) only [b_X4_gain_2, zc_X4_gain_32, b_X4_gain_32, zif, zdr, zkb, mK_wi, mN_wi, mJ_wi, mI_wi, sI_wi, beq_self_eq_true, Bool.true_or, Bool.or_true, Bool.or_false, Bool.and_self, Bool.and_true, Bool.true_and, ↓reduceIte, q1, q2, q3, q4, qi1, qi2, qi3, qa1, qa2, qa3, qs1, qs2, qs3, qf1, qf2, qf3, qt1, qt2, qt3, e0, i_le, Nat.le_refl]
    refine ev_bk ?_
    refine zat_in zP_X4_gain zk_X4_gain_38 ?_; simp (disch := omega) only [b_X4_gain_38, zif, zdr, zkb, mK_wi, mN_wi, mJ_wi, mI_wi, sI_wi, beq_self_eq_true, Bool.true_or, Bool.or_true, Bool.or_false, Bool.and_self, Bool.and_true, Bool.true_and, ↓reduceIte]
    exact ev_r
  | succ c ih =>
    intro k I hk hP
    have e0 : I t 1 = Int32.ofNat nd := (hP 0 0 (Or.inl ⟨rfl, by omega⟩)).trans ((tgain_i (by omega)).trans h0)
    have hl : (nd ≤ k) = False := eq_false (by omega)
    obtain ⟨q6, q7⟩ := q5 k (by omega)
    have hv1 : zvl nd ng 1 k := Or.inr (Or.inl ⟨rfl, by omega⟩)
    have e1 : I (t + 7 + k) 1 = T 2 k := (hP 2 k (Or.inr (Or.inr (Or.inl ⟨rfl, by omega⟩)))).trans (tgain_i (by omega))
    have e2 : I (t + 7 + k) 0 = T 1 k := (hP 1 k hv1).trans tgain_1
    have hz : zix (Int32.ofNat k) 16 = true := zix_of (by omega) (by omega)
    by_cases h : T 2 k = 0
    · have h1 := hP.put hv1 hn (jmin 1000 (T 1 k + n))
      rw [← tgain_s h] at h1
      obtain ⟨I', a1, a2, a3⟩ := ih (k + 1) _ (by omega) h1
      refine ⟨I', ?_, a2, zfI.tr (zfI.put zfI.rf (by simp only [xA]; omega) (by simp only [xA]; omega)) a3⟩
      refine zat_in zP_X4_gain zk_X4_gain_2 ?_; simp (disch := omega) only [b_X4_gain_2, zc_X4_gain_32, b_X4_gain_32, zif, zdr, zkb, mK_wi, mN_wi, mJ_wi, mI_wi, sI_wi, beq_self_eq_true, Bool.true_or, Bool.or_true, Bool.or_false, Bool.and_self, Bool.and_true, Bool.true_and, ↓reduceIte, q1, q2, q3, q4, qi1, qi2, qi3, qa1, qa2, qa3, qs1, qs2, qs3, qf1, qf2, qf3, qt1, qt2, qt3, q6, q7, e0, e1, i_le, i_cl, hl, hz, h, i_succ, Nat.reduceLeDiff]
      refine ev_cv (sp_X5_gain q6 (ble_up2 hB)) ?_
      rw [e2]
      exact ev_bk a1
    · rw [← tgain_n h] at hP
      obtain ⟨I', a1, a2, a3⟩ := ih (k + 1) _ (by omega) hP
      refine ⟨I', ?_, a2, a3⟩
      refine zat_in zP_X4_gain zk_X4_gain_2 ?_; simp (disch := omega) only [b_X4_gain_2, zc_X4_gain_32, b_X4_gain_32, zif, zdr, zkb, mK_wi, mN_wi, mJ_wi, mI_wi, sI_wi, beq_self_eq_true, Bool.true_or, Bool.or_true, Bool.or_false, Bool.and_self, Bool.and_true, Bool.true_and, ↓reduceIte, q1, q2, q3, q4, qi1, qi2, qi3, qa1, qa2, qa3, qs1, qs2, qs3, qf1, qf2, qf3, qt1, qt2, qt3, q6, q7, e0, e1, i_le, i_cl, hl, hz, h, i_succ, Nat.reduceLeDiff]
      refine ev_bk ?_
      refine zat_in zP_X4_gain zk_X4_gain_32 ?_; simp (disch := omega) only [b_X4_gain_32, zif, zdr, zkb, mK_wi, mN_wi, mJ_wi, mI_wi, sI_wi, beq_self_eq_true, Bool.true_or, Bool.or_true, Bool.or_false, Bool.and_self, Bool.and_true, Bool.true_and, ↓reduceIte, i_succ]
      exact ev_bk a1
theorem sp_X4_gain {n : Int32} (hB : E.1 ≤ t) (hS : xTS S t) (hn : nd ≤ 16) (hP : xP I t nd ng T) (h0 : T 0 0 = Int32.ofNat nd) : ∃ I', zCl E (d + 2) 104 [zr (some t), zi n] (zwi S I) (Sum.inl none, zwi S I') ∧ xP I' t nd ng (tgain n nd T) ∧ zfI t (t + 23) I I' := by
  obtain ⟨I', a1, a2, a3⟩ := lp_X4_gain (E := E) (d := d) (n := n) hB hS hn h0 nd 0 I (by omega) (by rw [tgain_0]; exact hP)
  refine ⟨I', ?_, a2, a3⟩
  refine zcl_in' zP_X4_gain ?_; rw [zn_2_3]
  refine zat_in zP_X4_gain zk_X4_gain_0 ?_
  simp only [b_X4_gain_0]
  exact ev_tl zP_X4_gain zk_X4_gain_2 a1
end
