/-! ===== cold ===== -/
set_option maxRecDepth 100000
def zcd (I : Nat → Nat → Int32) (a k n : Nat) (s c : Int32) : Nat → Nat → Int32 := fun x j => if x = a ∧ k ≤ j ∧ j < n ∧ ¬ (6 * Int32.ofNat j < s) then c else I x j
theorem zcd_k {I : Nat → Nat → Int32} {a k n x j : Nat} {s c : Int32} (h : ¬ (x = a ∧ k ≤ j ∧ j < n)) : zcd I a k n s c x j = I x j := if_neg (fun q => h ⟨q.1, q.2.1, q.2.2.1⟩)
theorem zcd_0 {I : Nat → Nat → Int32} {a k n : Nat} {s c : Int32} (h : n ≤ k) : zcd I a k n s c = I := by
  funext x j
  exact zcd_k (by omega)
theorem zcd_s {I : Nat → Nat → Int32} {a k n : Nat} {s c : Int32} (hk : k < n) (h : ¬ (6 * Int32.ofNat k < s)) : zcd (zup I a k c) a (k + 1) n s c = zcd I a k n s c := by
  funext x j
  by_cases e : x = a ∧ j = k
  · obtain ⟨rfl, rfl⟩ := e
    rw [zcd_k (by omega), zup_q]
    exact (if_pos ⟨rfl, Nat.le_refl _, hk, h⟩).symm
  · by_cases e2 : x = a ∧ k ≤ j ∧ j < n ∧ ¬ (6 * Int32.ofNat j < s)
    · rw [show zcd I a k n s c x j = c from if_pos e2]
      exact if_pos ⟨e2.1, by omega, e2.2.2⟩
    · rw [show zcd I a k n s c x j = I x j from if_neg e2, ← zup_k (f := I) (v := c) e]
      exact if_neg (fun q => e2 ⟨q.1, by omega, q.2.2⟩)
theorem zcd_n {I : Nat → Nat → Int32} {a k n : Nat} {s c : Int32} (h : 6 * Int32.ofNat k < s) : zcd I a (k + 1) n s c = zcd I a k n s c := by
  funext x j
  by_cases e2 : x = a ∧ k ≤ j ∧ j < n ∧ ¬ (6 * Int32.ofNat j < s)
  · rw [show zcd I a k n s c x j = c from if_pos e2]
    exact if_pos ⟨e2.1, by
      have : j ≠ k := fun q => e2.2.2.2 (by rw [q]; exact h)
      omega, e2.2.2⟩
  · rw [show zcd I a k n s c x j = I x j from if_neg e2]
    exact if_neg (fun q => e2 ⟨q.1, by omega, q.2.2⟩)
def vCold (V : zT) (a n : Nat) (c : Int32) : zT := fun i j => if i = 3 ∧ a ≤ j ∧ j < n ∧ ¬ (6 * Int32.ofNat j < V 0 2) then c else V i j
def oCold (G : zGl) (a b c : Int32) : Int32 × zGl := if tin a 0 333 = 0 ∨ tin b a 333 = 0 ∨ tin c (-50) 20 = 0 then (0, gtr G 2 (-1)) else (1, gtr (sN G (vCold (gV G) (nn a) (nn b + 1) c) (gT G)) 0 (-1))
theorem vCold_i {V : zT} {a n i j : Nat} {c : Int32} (h : i ≠ 3) : vCold V a n c i j = V i j := if_neg (fun q => h q.1)
theorem tin_iff {a lo hi : Int32} : tin a lo hi = 0 ↔ a < lo ∨ hi < a := by
  unfold tin
  by_cases h1 : a < lo
  · rw [if_pos h1]
    exact ⟨fun _ => Or.inl h1, fun _ => rfl⟩
  · rw [if_neg h1]
    by_cases h2 : hi < a
    · rw [if_pos h2]
      exact ⟨fun _ => Or.inr h2, fun _ => rfl⟩
    · rw [if_neg h2]
      exact ⟨fun q => absurd q (by decide), fun q => by rcases q with q | q <;> contradiction⟩
theorem cold_c {a b c : Int32} : (tin a 0 333 = 0 ∨ tin b a 333 = 0 ∨ tin c (-50) 20 = 0) ↔ (a < 0 ∨ b < a ∨ 334 ≤ b ∨ tin c (-50) 20 = 0) := by
  have e0 : (0 : Int32).toInt = 0 := rfl
  have e1 : (333 : Int32).toInt = 333 := rfl
  have e2 : (334 : Int32).toInt = 334 := rfl
  by_cases h : tin c (-50) 20 = 0
  · simp [h]
  · simp only [h, or_false, tin_iff (a := a), tin_iff (a := b), Int32.lt_iff_toInt_lt, Int32.le_iff_toInt_le, e0, e1, e2]
    omega
theorem cold_r {a b c : Int32} (h : ¬ (tin a 0 333 = 0 ∨ tin b a 333 = 0 ∨ tin c (-50) 20 = 0)) : a = Int32.ofNat (nn a) ∧ b = Int32.ofNat (nn b) ∧ nn a ≤ nn b ∧ nn b ≤ 333 ∧ c ≤ 20 := by
  have h1 : ¬ tin a 0 333 = 0 := fun q => h (Or.inl q)
  have h2 : ¬ tin b a 333 = 0 := fun q => h (Or.inr (Or.inl q))
  have h3 : ¬ tin c (-50) 20 = 0 := fun q => h (Or.inr (Or.inr q))
  obtain ⟨a1, a2⟩ := tin_1 h1
  obtain ⟨b1, b2⟩ := tin_1 h2
  have hb := Int32.le_trans a1 b1
  have e1 : (333 : Int32).toInt = 333 := rfl
  have na := i_nnI a1
  have nb := i_nnI hb
  rw [Int32.le_iff_toInt_le] at b1 b2
  exact ⟨i_toN a1, i_toN hb, by omega, by omega, (tin_1 h3).2⟩
section
variable {E : zE} {d B w n : Nat} {S : zM} {I : Nat → Nat → Int32} {G : zGl} {V : zT}
theorem iCold (hi : IG G) (a b c : Int32) : IG (oCold G a b c).2 := by
  unfold oCold
  split
  · exact hi.tr
  · next h =>
    obtain ⟨r1, r2, r3, r4, r5⟩ := cold_r h
    have hw : WTn (vCold (gV G) (nn a) (nn b + 1) c) (gT G) (gp G) := WT_V hi.1 (vCold_i (by omega)) (vCold_i (by omega)) (vCold_i (by omega)) (fun j => vCold_i (by omega)) (fun j => vCold_i (by omega)) (by rw [vCold_i (by omega)]; exact hi.1.1.2.2.2.1) (fun j hj => by
      unfold vCold
      split
      · exact r5
      · exact hi.1.1.2.2.2.2.2.2 j hj)
    exact (show IG (sN G (vCold (gV G) (nn a) (nn b + 1) c) (gT G)) from ⟨hw, hi.2⟩).tr
theorem wP_cold {J : Nat → Nat → Int32} {a : Nat} {c : Int32} (h : wP I w V) (hJ : ∀ x j, w ≤ x → x ≤ w + 3 → J x j = zcd I (w + 3) a n (V 0 2) c x j) : wP J w (vCold V a n c) := by
  obtain ⟨⟨v0, v1, v2, v3⟩, r1, r2, r3⟩ := h.un
  refine wP.mk ?_ ?_ ?_ ?_ (fun j hj => ?_) (fun j hj => ?_) (fun j hj => ?_)
  · rw [hJ _ _ (by omega) (by omega), zcd_k (by omega)]; exact v0
  · rw [hJ _ _ (by omega) (by omega), zcd_k (by omega)]; exact v1
  · rw [hJ _ _ (by omega) (by omega), zcd_k (by omega)]; exact v2
  · rw [hJ _ _ (by omega) (by omega), zcd_k (by omega)]; exact v3
  · rw [hJ _ _ (by omega) (by omega), zcd_k (by omega)]; exact r1 j hj
  · rw [hJ _ _ (by omega) (by omega), zcd_k (by omega)]; exact r2 j hj
  · rw [hJ _ _ (by omega) (by omega)]
    unfold zcd vCold
    by_cases q : a ≤ j ∧ j < n ∧ ¬ (6 * Int32.ofNat j < V 0 2)
    · rw [if_pos ⟨rfl, q⟩, if_pos ⟨rfl, q⟩]
    · rw [if_neg (fun z => q z.2), if_neg (fun z => q z.2)]
      exact r3 j hj
theorem lp_X0_cold {a b c : Int32} (hB : E.1 ≤ B) (hS : xCS S B) (hb : b = Int32.ofNat n) (hn : n < 334) {s : Int32} : ∀ m k : Nat, k + m = n + 1 → ∀ I : Nat → Nat → Int32, I (B + 5) 6 = s → ∀ r, zAt E d 34 85 [some (zr (some B)), some (zi a), some (zi b), some (zi c), some (zi (Int32.ofNat (n + 1)))] [] (zwi S (zcd I (B + 5 + 3) k (n + 1) s c)) r → zAt E d 34 47 [some (zr (some B)), some (zi a), some (zi b), some (zi c), some (zi (Int32.ofNat k))] [] (zwi S I) r := by
  have hcs := hS
  obtain ⟨b0, ⟨b3, b4, b5⟩, hwn, hwk, hal, ⟨b7, bk7, bn7⟩, ⟨b8, bk8, bn8⟩, ⟨b9, bk9, bn9⟩, ⟨b12, bk12⟩, ⟨ba0, bka0, bna0⟩, b2, bk2, ⟨br0, brk0⟩, br1, br2, brk2, brn2⟩ := id hcs
  obtain ⟨⟨w0, ⟨wa1, wa2, wa3⟩, ⟨wb1, wb2, wb3⟩, ⟨wc1, wc2, wc3⟩⟩, ⟨w1, w2, w3⟩, w4⟩ := id hwn
  intro m
  induction m with
  | zero =>
    intro k hk I e6 r hr
    obtain rfl : k = n + 1 := hk
    rw [zcd_0 (by omega)] at hr
    have hl : (b < Int32.ofNat (n + 1)) = True := by
      rw [hb, i_lt (by omega) (by omega)]
      exact eq_true (by omega)
    refine zat_in zP_X0_cold zk_X0_cold_47 ?_
    simp (disch := omega) only [b_X0_cold_47, zif, zdr, zkb, mK_wi, mN_wi, mJ_wi, mI_wi, sI_wi, beq_self_eq_true, Bool.true_or, Bool.or_true, Bool.or_false, Bool.and_self, Bool.and_true, Bool.true_and, ↓reduceIte, ble_up0, i_cl, i_succ, zix_of, zfl_k, zup_k, zup_q, hl]
    exact ev_bk hr
  | succ m ih =>
    intro k hk I e6 r hr
    have hl : (b < Int32.ofNat k) = False := by
      rw [hb, i_lt (by omega) (by omega)]
      exact eq_false (by omega)
    by_cases c1 : 6 * Int32.ofNat k < s
    · have := ih (k + 1) (by omega) I e6 r (by rw [zcd_n c1]; exact hr)
      refine zat_in zP_X0_cold zk_X0_cold_47 ?_
      simp (disch := omega) only [b_X0_cold_47, zif, zdr, zkb, mK_wi, mN_wi, mJ_wi, mI_wi, sI_wi, beq_self_eq_true, Bool.true_or, Bool.or_true, Bool.or_false, Bool.and_self, Bool.and_true, Bool.true_and, ↓reduceIte, ble_up0, i_cl, i_succ, zix_of, zfl_k, zup_k, zup_q, b0, b3, b4, b5, b7, bk7, bn7, b8, bk8, bn8, b9, bk9, bn9, b12, bk12, ba0, bka0, bna0, b2, bk2, br0, brk0, br1, br2, brk2, brn2, w0, wa1, wa2, wa3, wb1, wb2, wb3, wc1, wc2, wc3, w1, w2, w3, hl, e6, eq_true c1]
      refine ev_bk ?_
      refine zat_in zP_X0_cold zk_X0_cold_79 ?_; simp (disch := omega) only [b_X0_cold_79, zif, zdr, zkb, mK_wi, mN_wi, mJ_wi, mI_wi, sI_wi, beq_self_eq_true, Bool.true_or, Bool.or_true, Bool.or_false, Bool.and_self, Bool.and_true, Bool.true_and, ↓reduceIte, ble_up0, i_cl, i_succ, zix_of, zfl_k, zup_k, zup_q]
      exact ev_bk this
    · have := ih (k + 1) (by omega) (zup I (B + 5 + 3) k c) ((zup_k (by omega)).trans e6) r (by rw [zcd_s (by omega) c1]; exact hr)
      refine zat_in zP_X0_cold zk_X0_cold_47 ?_
      simp (disch := omega) only [b_X0_cold_47, zif, zdr, zkb, mK_wi, mN_wi, mJ_wi, mI_wi, sI_wi, beq_self_eq_true, Bool.true_or, Bool.or_true, Bool.or_false, Bool.and_self, Bool.and_true, Bool.true_and, ↓reduceIte, ble_up0, i_cl, i_succ, zix_of, zfl_k, zup_k, zup_q, b0, b3, b4, b5, b7, bk7, bn7, b8, bk8, bn8, b9, bk9, bn9, b12, bk12, ba0, bka0, bna0, b2, bk2, br0, brk0, br1, br2, brk2, brn2, w0, wa1, wa2, wa3, wb1, wb2, wb3, wc1, wc2, wc3, w1, w2, w3, hl, e6, eq_false c1]
      refine ev_tl zP_X0_cold zk_X0_cold_79 ?_
      refine zat_in zP_X0_cold zk_X0_cold_79 ?_; simp (disch := omega) only [b_X0_cold_79, zif, zdr, zkb, mK_wi, mN_wi, mJ_wi, mI_wi, sI_wi, beq_self_eq_true, Bool.true_or, Bool.or_true, Bool.or_false, Bool.and_self, Bool.and_true, Bool.true_and, ↓reduceIte, ble_up0, i_cl, i_succ, zix_of, zfl_k, zup_k, zup_q]
      exact ev_bk this
theorem sp_X0_cold (hB : E.1 ≤ B) (h : XG S I B G) (hi : IG G) (a b c : Int32) : ∃ I', zCl E (d + 1) 34 [zr (some B), zi a, zi b, zi c] (zwi S I) (Sum.inl (some (zi (oCold G a b c).1)), zwi S I') ∧ XG S I' B (oCold G a b c).2 ∧ zfI B (B + 318) I I' := by
  have hcs := h.1
  obtain ⟨b0, ⟨b3, b4, b5⟩, hwn, hwk, hal, ⟨b7, bk7, bn7⟩, ⟨b8, bk8, bn8⟩, ⟨b9, bk9, bn9⟩, ⟨b12, bk12⟩, ⟨ba0, bka0, bna0⟩, b2, bk2, ⟨br0, brk0⟩, br1, br2, brk2, brn2⟩ := id hcs
  have n0 : ((0 : Int32) == 0 || (0 : Int32) == 1) = true := by decide
  unfold oCold
  by_cases c0 : tin a 0 333 = 0 ∨ tin b a 333 = 0 ∨ tin c (-50) 20 = 0
  · rw [if_pos c0]
    by_cases c1 : tin a 0 333 = 0
    · skip
      refine ⟨?w1, ?a1, ?b1, ?c1⟩
      case a1 =>
        refine zcl_in' zP_X0_cold ?_; rw [zn_4_5]
        (first | refine zat_in zP_X0_cold zk_X0_cold_0 ?_ | refine zat_in zP_X0_cold zk_X0_cold_37 ?_ | refine zat_in zP_X0_cold zk_X0_cold_44 ?_ | refine zat_in zP_X0_cold zk_X0_cold_47 ?_ | refine zat_in zP_X0_cold zk_X0_cold_79 ?_ | refine zat_in zP_X0_cold zk_X0_cold_85 ?_) <;> simp (disch := omega) only [b_X0_cold_0, b_X0_cold_37, b_X0_cold_44, b_X0_cold_47, b_X0_cold_79, b_X0_cold_85, zc_X0_cold_37, zc_X0_cold_44, zc_X0_cold_47, zc_X0_cold_79, zc_X0_cold_85, zif, zdr, zkb, mK_wi, mN_wi, mJ_wi, mI_wi, sI_wi, beq_self_eq_true, Bool.true_or, Bool.or_true, Bool.or_false, Bool.and_self, Bool.and_true, Bool.true_and, ↓reduceIte, ble_up0, i_cl, i_succ, zix_of, zfl_k, zup_k, zup_q, b0, b3, b4, b5, b7, bk7, bn7, b8, bk8, bn8, b9, bk9, bn9, b12, bk12, ba0, bka0, bna0, b2, bk2, br0, brk0, br1, br2, brk2, brn2, eq_true c1, n0]; repeat (first | exact ev_r | (refine ev_bk ?_; ((first | refine zat_in zP_X0_cold zk_X0_cold_0 ?_ | refine zat_in zP_X0_cold zk_X0_cold_37 ?_ | refine zat_in zP_X0_cold zk_X0_cold_44 ?_ | refine zat_in zP_X0_cold zk_X0_cold_47 ?_ | refine zat_in zP_X0_cold zk_X0_cold_79 ?_ | refine zat_in zP_X0_cold zk_X0_cold_85 ?_) <;> simp (disch := omega) only [b_X0_cold_0, b_X0_cold_37, b_X0_cold_44, b_X0_cold_47, b_X0_cold_79, b_X0_cold_85, zc_X0_cold_37, zc_X0_cold_44, zc_X0_cold_47, zc_X0_cold_79, zc_X0_cold_85, zif, zdr, zkb, mK_wi, mN_wi, mJ_wi, mI_wi, sI_wi, beq_self_eq_true, Bool.true_or, Bool.or_true, Bool.or_false, Bool.and_self, Bool.and_true, Bool.true_and, ↓reduceIte, ble_up0, i_cl, i_succ, zix_of, zfl_k, zup_k, zup_q, b0, b3, b4, b5, b7, bk7, bn7, b8, bk8, bn8, b9, bk9, bn9, b12, bk12, ba0, bka0, bna0, b2, bk2, br0, brk0, br1, br2, brk2, brn2, eq_true c1, n0])) | (refine ev_cv (sp_X0_begins hB b0) ?_; try simp (disch := omega) only [b_X0_cold_0, b_X0_cold_37, b_X0_cold_44, b_X0_cold_47, b_X0_cold_79, b_X0_cold_85, zc_X0_cold_37, zc_X0_cold_44, zc_X0_cold_47, zc_X0_cold_79, zc_X0_cold_85, zif, zdr, zkb, mK_wi, mN_wi, mJ_wi, mI_wi, sI_wi, beq_self_eq_true, Bool.true_or, Bool.or_true, Bool.or_false, Bool.and_self, Bool.and_true, Bool.true_and, ↓reduceIte, ble_up0, i_cl, i_succ, zix_of, zfl_k, zup_k, zup_q, b0, b3, b4, b5, b7, bk7, bn7, b8, bk8, bn8, b9, bk9, bn9, b12, bk12, ba0, bka0, bna0, b2, bk2, br0, brk0, br1, br2, brk2, brn2, eq_true c1, n0]) | (refine ev_ci (sp_X0_begins hB b0) ?_; try simp (disch := omega) only [b_X0_cold_0, b_X0_cold_37, b_X0_cold_44, b_X0_cold_47, b_X0_cold_79, b_X0_cold_85, zc_X0_cold_37, zc_X0_cold_44, zc_X0_cold_47, zc_X0_cold_79, zc_X0_cold_85, zif, zdr, zkb, mK_wi, mN_wi, mJ_wi, mI_wi, sI_wi, beq_self_eq_true, Bool.true_or, Bool.or_true, Bool.or_false, Bool.and_self, Bool.and_true, Bool.true_and, ↓reduceIte, ble_up0, i_cl, i_succ, zix_of, zfl_k, zup_k, zup_q, b0, b3, b4, b5, b7, bk7, bn7, b8, bk8, bn8, b9, bk9, bn9, b12, bk12, ba0, bka0, bna0, b2, bk2, br0, brk0, br1, br2, brk2, brn2, eq_true c1, n0]) | (refine ev_cr (sp_X0_begins hB b0) ?_; try simp (disch := omega) only [b_X0_cold_0, b_X0_cold_37, b_X0_cold_44, b_X0_cold_47, b_X0_cold_79, b_X0_cold_85, zc_X0_cold_37, zc_X0_cold_44, zc_X0_cold_47, zc_X0_cold_79, zc_X0_cold_85, zif, zdr, zkb, mK_wi, mN_wi, mJ_wi, mI_wi, sI_wi, beq_self_eq_true, Bool.true_or, Bool.or_true, Bool.or_false, Bool.and_self, Bool.and_true, Bool.true_and, ↓reduceIte, ble_up0, i_cl, i_succ, zix_of, zfl_k, zup_k, zup_q, b0, b3, b4, b5, b7, bk7, bn7, b8, bk8, bn8, b9, bk9, bn9, b12, bk12, ba0, bka0, bna0, b2, bk2, br0, brk0, br1, br2, brk2, brn2, eq_true c1, n0]) | (refine ev_cg (sp_X0_begins hB b0) ?_; try simp (disch := omega) only [b_X0_cold_0, b_X0_cold_37, b_X0_cold_44, b_X0_cold_47, b_X0_cold_79, b_X0_cold_85, zc_X0_cold_37, zc_X0_cold_44, zc_X0_cold_47, zc_X0_cold_79, zc_X0_cold_85, zif, zdr, zkb, mK_wi, mN_wi, mJ_wi, mI_wi, sI_wi, beq_self_eq_true, Bool.true_or, Bool.or_true, Bool.or_false, Bool.and_self, Bool.and_true, Bool.true_and, ↓reduceIte, ble_up0, i_cl, i_succ, zix_of, zfl_k, zup_k, zup_q, b0, b3, b4, b5, b7, bk7, bn7, b8, bk8, bn8, b9, bk9, bn9, b12, bk12, ba0, bka0, bna0, b2, bk2, br0, brk0, br1, br2, brk2, brn2, eq_true c1, n0]) | (refine ev_cv (sp_X0_in _ _ _) ?_; try simp (disch := omega) only [b_X0_cold_0, b_X0_cold_37, b_X0_cold_44, b_X0_cold_47, b_X0_cold_79, b_X0_cold_85, zc_X0_cold_37, zc_X0_cold_44, zc_X0_cold_47, zc_X0_cold_79, zc_X0_cold_85, zif, zdr, zkb, mK_wi, mN_wi, mJ_wi, mI_wi, sI_wi, beq_self_eq_true, Bool.true_or, Bool.or_true, Bool.or_false, Bool.and_self, Bool.and_true, Bool.true_and, ↓reduceIte, ble_up0, i_cl, i_succ, zix_of, zfl_k, zup_k, zup_q, b0, b3, b4, b5, b7, bk7, bn7, b8, bk8, bn8, b9, bk9, bn9, b12, bk12, ba0, bka0, bna0, b2, bk2, br0, brk0, br1, br2, brk2, brn2, eq_true c1, n0]) | (refine ev_ci (sp_X0_in _ _ _) ?_; try simp (disch := omega) only [b_X0_cold_0, b_X0_cold_37, b_X0_cold_44, b_X0_cold_47, b_X0_cold_79, b_X0_cold_85, zc_X0_cold_37, zc_X0_cold_44, zc_X0_cold_47, zc_X0_cold_79, zc_X0_cold_85, zif, zdr, zkb, mK_wi, mN_wi, mJ_wi, mI_wi, sI_wi, beq_self_eq_true, Bool.true_or, Bool.or_true, Bool.or_false, Bool.and_self, Bool.and_true, Bool.true_and, ↓reduceIte, ble_up0, i_cl, i_succ, zix_of, zfl_k, zup_k, zup_q, b0, b3, b4, b5, b7, bk7, bn7, b8, bk8, bn8, b9, bk9, bn9, b12, bk12, ba0, bka0, bna0, b2, bk2, br0, brk0, br1, br2, brk2, brn2, eq_true c1, n0]) | (refine ev_cr (sp_X0_in _ _ _) ?_; try simp (disch := omega) only [b_X0_cold_0, b_X0_cold_37, b_X0_cold_44, b_X0_cold_47, b_X0_cold_79, b_X0_cold_85, zc_X0_cold_37, zc_X0_cold_44, zc_X0_cold_47, zc_X0_cold_79, zc_X0_cold_85, zif, zdr, zkb, mK_wi, mN_wi, mJ_wi, mI_wi, sI_wi, beq_self_eq_true, Bool.true_or, Bool.or_true, Bool.or_false, Bool.and_self, Bool.and_true, Bool.true_and, ↓reduceIte, ble_up0, i_cl, i_succ, zix_of, zfl_k, zup_k, zup_q, b0, b3, b4, b5, b7, bk7, bn7, b8, bk8, bn8, b9, bk9, bn9, b12, bk12, ba0, bka0, bna0, b2, bk2, br0, brk0, br1, br2, brk2, brn2, eq_true c1, n0]) | (refine ev_cg (sp_X0_in _ _ _) ?_; try simp (disch := omega) only [b_X0_cold_0, b_X0_cold_37, b_X0_cold_44, b_X0_cold_47, b_X0_cold_79, b_X0_cold_85, zc_X0_cold_37, zc_X0_cold_44, zc_X0_cold_47, zc_X0_cold_79, zc_X0_cold_85, zif, zdr, zkb, mK_wi, mN_wi, mJ_wi, mI_wi, sI_wi, beq_self_eq_true, Bool.true_or, Bool.or_true, Bool.or_false, Bool.and_self, Bool.and_true, Bool.true_and, ↓reduceIte, ble_up0, i_cl, i_succ, zix_of, zfl_k, zup_k, zup_q, b0, b3, b4, b5, b7, bk7, bn7, b8, bk8, bn8, b9, bk9, bn9, b12, bk12, ba0, bka0, bna0, b2, bk2, br0, brk0, br1, br2, brk2, brn2, eq_true c1, n0]))
      case b1 => exact h.tr hi (by simp (disch := omega) only [zfl_k, zfl_q, zup_k, zup_q]) (by simp (disch := omega) only [zfl_k, zfl_q, zup_k, zup_q]) (fun a k h1 h2 h3 h4 h5 => by simp (disch := omega) only [zfl_k, zfl_q, zup_k, zup_q])
      case c1 => repeat (first | exact zfI.rf | refine zfI.put ?_ (by omega) (by omega))
    · by_cases c2 : tin b a 333 = 0
      · skip
        refine ⟨?w2, ?a2, ?b2, ?c2⟩
        case a2 =>
          refine zcl_in' zP_X0_cold ?_; rw [zn_4_5]
          (first | refine zat_in zP_X0_cold zk_X0_cold_0 ?_ | refine zat_in zP_X0_cold zk_X0_cold_37 ?_ | refine zat_in zP_X0_cold zk_X0_cold_44 ?_ | refine zat_in zP_X0_cold zk_X0_cold_47 ?_ | refine zat_in zP_X0_cold zk_X0_cold_79 ?_ | refine zat_in zP_X0_cold zk_X0_cold_85 ?_) <;> simp (disch := omega) only [b_X0_cold_0, b_X0_cold_37, b_X0_cold_44, b_X0_cold_47, b_X0_cold_79, b_X0_cold_85, zc_X0_cold_37, zc_X0_cold_44, zc_X0_cold_47, zc_X0_cold_79, zc_X0_cold_85, zif, zdr, zkb, mK_wi, mN_wi, mJ_wi, mI_wi, sI_wi, beq_self_eq_true, Bool.true_or, Bool.or_true, Bool.or_false, Bool.and_self, Bool.and_true, Bool.true_and, ↓reduceIte, ble_up0, i_cl, i_succ, zix_of, zfl_k, zup_k, zup_q, b0, b3, b4, b5, b7, bk7, bn7, b8, bk8, bn8, b9, bk9, bn9, b12, bk12, ba0, bka0, bna0, b2, bk2, br0, brk0, br1, br2, brk2, brn2, eq_false c1, eq_true c2, n0]; repeat (first | exact ev_r | (refine ev_bk ?_; ((first | refine zat_in zP_X0_cold zk_X0_cold_0 ?_ | refine zat_in zP_X0_cold zk_X0_cold_37 ?_ | refine zat_in zP_X0_cold zk_X0_cold_44 ?_ | refine zat_in zP_X0_cold zk_X0_cold_47 ?_ | refine zat_in zP_X0_cold zk_X0_cold_79 ?_ | refine zat_in zP_X0_cold zk_X0_cold_85 ?_) <;> simp (disch := omega) only [b_X0_cold_0, b_X0_cold_37, b_X0_cold_44, b_X0_cold_47, b_X0_cold_79, b_X0_cold_85, zc_X0_cold_37, zc_X0_cold_44, zc_X0_cold_47, zc_X0_cold_79, zc_X0_cold_85, zif, zdr, zkb, mK_wi, mN_wi, mJ_wi, mI_wi, sI_wi, beq_self_eq_true, Bool.true_or, Bool.or_true, Bool.or_false, Bool.and_self, Bool.and_true, Bool.true_and, ↓reduceIte, ble_up0, i_cl, i_succ, zix_of, zfl_k, zup_k, zup_q, b0, b3, b4, b5, b7, bk7, bn7, b8, bk8, bn8, b9, bk9, bn9, b12, bk12, ba0, bka0, bna0, b2, bk2, br0, brk0, br1, br2, brk2, brn2, eq_false c1, eq_true c2, n0])) | (refine ev_cv (sp_X0_begins hB b0) ?_; try simp (disch := omega) only [b_X0_cold_0, b_X0_cold_37, b_X0_cold_44, b_X0_cold_47, b_X0_cold_79, b_X0_cold_85, zc_X0_cold_37, zc_X0_cold_44, zc_X0_cold_47, zc_X0_cold_79, zc_X0_cold_85, zif, zdr, zkb, mK_wi, mN_wi, mJ_wi, mI_wi, sI_wi, beq_self_eq_true, Bool.true_or, Bool.or_true, Bool.or_false, Bool.and_self, Bool.and_true, Bool.true_and, ↓reduceIte, ble_up0, i_cl, i_succ, zix_of, zfl_k, zup_k, zup_q, b0, b3, b4, b5, b7, bk7, bn7, b8, bk8, bn8, b9, bk9, bn9, b12, bk12, ba0, bka0, bna0, b2, bk2, br0, brk0, br1, br2, brk2, brn2, eq_false c1, eq_true c2, n0]) | (refine ev_ci (sp_X0_begins hB b0) ?_; try simp (disch := omega) only [b_X0_cold_0, b_X0_cold_37, b_X0_cold_44, b_X0_cold_47, b_X0_cold_79, b_X0_cold_85, zc_X0_cold_37, zc_X0_cold_44, zc_X0_cold_47, zc_X0_cold_79, zc_X0_cold_85, zif, zdr, zkb, mK_wi, mN_wi, mJ_wi, mI_wi, sI_wi, beq_self_eq_true, Bool.true_or, Bool.or_true, Bool.or_false, Bool.and_self, Bool.and_true, Bool.true_and, ↓reduceIte, ble_up0, i_cl, i_succ, zix_of, zfl_k, zup_k, zup_q, b0, b3, b4, b5, b7, bk7, bn7, b8, bk8, bn8, b9, bk9, bn9, b12, bk12, ba0, bka0, bna0, b2, bk2, br0, brk0, br1, br2, brk2, brn2, eq_false c1, eq_true c2, n0]) | (refine ev_cr (sp_X0_begins hB b0) ?_; try simp (disch := omega) only [b_X0_cold_0, b_X0_cold_37, b_X0_cold_44, b_X0_cold_47, b_X0_cold_79, b_X0_cold_85, zc_X0_cold_37, zc_X0_cold_44, zc_X0_cold_47, zc_X0_cold_79, zc_X0_cold_85, zif, zdr, zkb, mK_wi, mN_wi, mJ_wi, mI_wi, sI_wi, beq_self_eq_true, Bool.true_or, Bool.or_true, Bool.or_false, Bool.and_self, Bool.and_true, Bool.true_and, ↓reduceIte, ble_up0, i_cl, i_succ, zix_of, zfl_k, zup_k, zup_q, b0, b3, b4, b5, b7, bk7, bn7, b8, bk8, bn8, b9, bk9, bn9, b12, bk12, ba0, bka0, bna0, b2, bk2, br0, brk0, br1, br2, brk2, brn2, eq_false c1, eq_true c2, n0]) | (refine ev_cg (sp_X0_begins hB b0) ?_; try simp (disch := omega) only [b_X0_cold_0, b_X0_cold_37, b_X0_cold_44, b_X0_cold_47, b_X0_cold_79, b_X0_cold_85, zc_X0_cold_37, zc_X0_cold_44, zc_X0_cold_47, zc_X0_cold_79, zc_X0_cold_85, zif, zdr, zkb, mK_wi, mN_wi, mJ_wi, mI_wi, sI_wi, beq_self_eq_true, Bool.true_or, Bool.or_true, Bool.or_false, Bool.and_self, Bool.and_true, Bool.true_and, ↓reduceIte, ble_up0, i_cl, i_succ, zix_of, zfl_k, zup_k, zup_q, b0, b3, b4, b5, b7, bk7, bn7, b8, bk8, bn8, b9, bk9, bn9, b12, bk12, ba0, bka0, bna0, b2, bk2, br0, brk0, br1, br2, brk2, brn2, eq_false c1, eq_true c2, n0]) | (refine ev_cv (sp_X0_in _ _ _) ?_; try simp (disch := omega) only [b_X0_cold_0, b_X0_cold_37, b_X0_cold_44, b_X0_cold_47, b_X0_cold_79, b_X0_cold_85, zc_X0_cold_37, zc_X0_cold_44, zc_X0_cold_47, zc_X0_cold_79, zc_X0_cold_85, zif, zdr, zkb, mK_wi, mN_wi, mJ_wi, mI_wi, sI_wi, beq_self_eq_true, Bool.true_or, Bool.or_true, Bool.or_false, Bool.and_self, Bool.and_true, Bool.true_and, ↓reduceIte, ble_up0, i_cl, i_succ, zix_of, zfl_k, zup_k, zup_q, b0, b3, b4, b5, b7, bk7, bn7, b8, bk8, bn8, b9, bk9, bn9, b12, bk12, ba0, bka0, bna0, b2, bk2, br0, brk0, br1, br2, brk2, brn2, eq_false c1, eq_true c2, n0]) | (refine ev_ci (sp_X0_in _ _ _) ?_; try simp (disch := omega) only [b_X0_cold_0, b_X0_cold_37, b_X0_cold_44, b_X0_cold_47, b_X0_cold_79, b_X0_cold_85, zc_X0_cold_37, zc_X0_cold_44, zc_X0_cold_47, zc_X0_cold_79, zc_X0_cold_85, zif, zdr, zkb, mK_wi, mN_wi, mJ_wi, mI_wi, sI_wi, beq_self_eq_true, Bool.true_or, Bool.or_true, Bool.or_false, Bool.and_self, Bool.and_true, Bool.true_and, ↓reduceIte, ble_up0, i_cl, i_succ, zix_of, zfl_k, zup_k, zup_q, b0, b3, b4, b5, b7, bk7, bn7, b8, bk8, bn8, b9, bk9, bn9, b12, bk12, ba0, bka0, bna0, b2, bk2, br0, brk0, br1, br2, brk2, brn2, eq_false c1, eq_true c2, n0]) | (refine ev_cr (sp_X0_in _ _ _) ?_; try simp (disch := omega) only [b_X0_cold_0, b_X0_cold_37, b_X0_cold_44, b_X0_cold_47, b_X0_cold_79, b_X0_cold_85, zc_X0_cold_37, zc_X0_cold_44, zc_X0_cold_47, zc_X0_cold_79, zc_X0_cold_85, zif, zdr, zkb, mK_wi, mN_wi, mJ_wi, mI_wi, sI_wi, beq_self_eq_true, Bool.true_or, Bool.or_true, Bool.or_false, Bool.and_self, Bool.and_true, Bool.true_and, ↓reduceIte, ble_up0, i_cl, i_succ, zix_of, zfl_k, zup_k, zup_q, b0, b3, b4, b5, b7, bk7, bn7, b8, bk8, bn8, b9, bk9, bn9, b12, bk12, ba0, bka0, bna0, b2, bk2, br0, brk0, br1, br2, brk2, brn2, eq_false c1, eq_true c2, n0]) | (refine ev_cg (sp_X0_in _ _ _) ?_; try simp (disch := omega) only [b_X0_cold_0, b_X0_cold_37, b_X0_cold_44, b_X0_cold_47, b_X0_cold_79, b_X0_cold_85, zc_X0_cold_37, zc_X0_cold_44, zc_X0_cold_47, zc_X0_cold_79, zc_X0_cold_85, zif, zdr, zkb, mK_wi, mN_wi, mJ_wi, mI_wi, sI_wi, beq_self_eq_true, Bool.true_or, Bool.or_true, Bool.or_false, Bool.and_self, Bool.and_true, Bool.true_and, ↓reduceIte, ble_up0, i_cl, i_succ, zix_of, zfl_k, zup_k, zup_q, b0, b3, b4, b5, b7, bk7, bn7, b8, bk8, bn8, b9, bk9, bn9, b12, bk12, ba0, bka0, bna0, b2, bk2, br0, brk0, br1, br2, brk2, brn2, eq_false c1, eq_true c2, n0]))
        case b2 => exact h.tr hi (by simp (disch := omega) only [zfl_k, zfl_q, zup_k, zup_q]) (by simp (disch := omega) only [zfl_k, zfl_q, zup_k, zup_q]) (fun a k h1 h2 h3 h4 h5 => by simp (disch := omega) only [zfl_k, zfl_q, zup_k, zup_q])
        case c2 => repeat (first | exact zfI.rf | refine zfI.put ?_ (by omega) (by omega))
      · have c3 : tin c (-50) 20 = 0 := by
          rcases c0 with q | q | q
          · exact absurd q c1
          · exact absurd q c2
          · exact q
        refine ⟨?w3, ?a3, ?b3, ?c3⟩
        case a3 =>
          refine zcl_in' zP_X0_cold ?_; rw [zn_4_5]
          (first | refine zat_in zP_X0_cold zk_X0_cold_0 ?_ | refine zat_in zP_X0_cold zk_X0_cold_37 ?_ | refine zat_in zP_X0_cold zk_X0_cold_44 ?_ | refine zat_in zP_X0_cold zk_X0_cold_47 ?_ | refine zat_in zP_X0_cold zk_X0_cold_79 ?_ | refine zat_in zP_X0_cold zk_X0_cold_85 ?_) <;> simp (disch := omega) only [b_X0_cold_0, b_X0_cold_37, b_X0_cold_44, b_X0_cold_47, b_X0_cold_79, b_X0_cold_85, zc_X0_cold_37, zc_X0_cold_44, zc_X0_cold_47, zc_X0_cold_79, zc_X0_cold_85, zif, zdr, zkb, mK_wi, mN_wi, mJ_wi, mI_wi, sI_wi, beq_self_eq_true, Bool.true_or, Bool.or_true, Bool.or_false, Bool.and_self, Bool.and_true, Bool.true_and, ↓reduceIte, ble_up0, i_cl, i_succ, zix_of, zfl_k, zup_k, zup_q, b0, b3, b4, b5, b7, bk7, bn7, b8, bk8, bn8, b9, bk9, bn9, b12, bk12, ba0, bka0, bna0, b2, bk2, br0, brk0, br1, br2, brk2, brn2, eq_false c1, eq_false c2, eq_true c3, n0]; repeat (first | exact ev_r | (refine ev_bk ?_; ((first | refine zat_in zP_X0_cold zk_X0_cold_0 ?_ | refine zat_in zP_X0_cold zk_X0_cold_37 ?_ | refine zat_in zP_X0_cold zk_X0_cold_44 ?_ | refine zat_in zP_X0_cold zk_X0_cold_47 ?_ | refine zat_in zP_X0_cold zk_X0_cold_79 ?_ | refine zat_in zP_X0_cold zk_X0_cold_85 ?_) <;> simp (disch := omega) only [b_X0_cold_0, b_X0_cold_37, b_X0_cold_44, b_X0_cold_47, b_X0_cold_79, b_X0_cold_85, zc_X0_cold_37, zc_X0_cold_44, zc_X0_cold_47, zc_X0_cold_79, zc_X0_cold_85, zif, zdr, zkb, mK_wi, mN_wi, mJ_wi, mI_wi, sI_wi, beq_self_eq_true, Bool.true_or, Bool.or_true, Bool.or_false, Bool.and_self, Bool.and_true, Bool.true_and, ↓reduceIte, ble_up0, i_cl, i_succ, zix_of, zfl_k, zup_k, zup_q, b0, b3, b4, b5, b7, bk7, bn7, b8, bk8, bn8, b9, bk9, bn9, b12, bk12, ba0, bka0, bna0, b2, bk2, br0, brk0, br1, br2, brk2, brn2, eq_false c1, eq_false c2, eq_true c3, n0])) | (refine ev_cv (sp_X0_begins hB b0) ?_; try simp (disch := omega) only [b_X0_cold_0, b_X0_cold_37, b_X0_cold_44, b_X0_cold_47, b_X0_cold_79, b_X0_cold_85, zc_X0_cold_37, zc_X0_cold_44, zc_X0_cold_47, zc_X0_cold_79, zc_X0_cold_85, zif, zdr, zkb, mK_wi, mN_wi, mJ_wi, mI_wi, sI_wi, beq_self_eq_true, Bool.true_or, Bool.or_true, Bool.or_false, Bool.and_self, Bool.and_true, Bool.true_and, ↓reduceIte, ble_up0, i_cl, i_succ, zix_of, zfl_k, zup_k, zup_q, b0, b3, b4, b5, b7, bk7, bn7, b8, bk8, bn8, b9, bk9, bn9, b12, bk12, ba0, bka0, bna0, b2, bk2, br0, brk0, br1, br2, brk2, brn2, eq_false c1, eq_false c2, eq_true c3, n0]) | (refine ev_ci (sp_X0_begins hB b0) ?_; try simp (disch := omega) only [b_X0_cold_0, b_X0_cold_37, b_X0_cold_44, b_X0_cold_47, b_X0_cold_79, b_X0_cold_85, zc_X0_cold_37, zc_X0_cold_44, zc_X0_cold_47, zc_X0_cold_79, zc_X0_cold_85, zif, zdr, zkb, mK_wi, mN_wi, mJ_wi, mI_wi, sI_wi, beq_self_eq_true, Bool.true_or, Bool.or_true, Bool.or_false, Bool.and_self, Bool.and_true, Bool.true_and, ↓reduceIte, ble_up0, i_cl, i_succ, zix_of, zfl_k, zup_k, zup_q, b0, b3, b4, b5, b7, bk7, bn7, b8, bk8, bn8, b9, bk9, bn9, b12, bk12, ba0, bka0, bna0, b2, bk2, br0, brk0, br1, br2, brk2, brn2, eq_false c1, eq_false c2, eq_true c3, n0]) | (refine ev_cr (sp_X0_begins hB b0) ?_; try simp (disch := omega) only [b_X0_cold_0, b_X0_cold_37, b_X0_cold_44, b_X0_cold_47, b_X0_cold_79, b_X0_cold_85, zc_X0_cold_37, zc_X0_cold_44, zc_X0_cold_47, zc_X0_cold_79, zc_X0_cold_85, zif, zdr, zkb, mK_wi, mN_wi, mJ_wi, mI_wi, sI_wi, beq_self_eq_true, Bool.true_or, Bool.or_true, Bool.or_false, Bool.and_self, Bool.and_true, Bool.true_and, ↓reduceIte, ble_up0, i_cl, i_succ, zix_of, zfl_k, zup_k, zup_q, b0, b3, b4, b5, b7, bk7, bn7, b8, bk8, bn8, b9, bk9, bn9, b12, bk12, ba0, bka0, bna0, b2, bk2, br0, brk0, br1, br2, brk2, brn2, eq_false c1, eq_false c2, eq_true c3, n0]) | (refine ev_cg (sp_X0_begins hB b0) ?_; try simp (disch := omega) only [b_X0_cold_0, b_X0_cold_37, b_X0_cold_44, b_X0_cold_47, b_X0_cold_79, b_X0_cold_85, zc_X0_cold_37, zc_X0_cold_44, zc_X0_cold_47, zc_X0_cold_79, zc_X0_cold_85, zif, zdr, zkb, mK_wi, mN_wi, mJ_wi, mI_wi, sI_wi, beq_self_eq_true, Bool.true_or, Bool.or_true, Bool.or_false, Bool.and_self, Bool.and_true, Bool.true_and, ↓reduceIte, ble_up0, i_cl, i_succ, zix_of, zfl_k, zup_k, zup_q, b0, b3, b4, b5, b7, bk7, bn7, b8, bk8, bn8, b9, bk9, bn9, b12, bk12, ba0, bka0, bna0, b2, bk2, br0, brk0, br1, br2, brk2, brn2, eq_false c1, eq_false c2, eq_true c3, n0]) | (refine ev_cv (sp_X0_in _ _ _) ?_; try simp (disch := omega) only [b_X0_cold_0, b_X0_cold_37, b_X0_cold_44, b_X0_cold_47, b_X0_cold_79, b_X0_cold_85, zc_X0_cold_37, zc_X0_cold_44, zc_X0_cold_47, zc_X0_cold_79, zc_X0_cold_85, zif, zdr, zkb, mK_wi, mN_wi, mJ_wi, mI_wi, sI_wi, beq_self_eq_true, Bool.true_or, Bool.or_true, Bool.or_false, Bool.and_self, Bool.and_true, Bool.true_and, ↓reduceIte, ble_up0, i_cl, i_succ, zix_of, zfl_k, zup_k, zup_q, b0, b3, b4, b5, b7, bk7, bn7, b8, bk8, bn8, b9, bk9, bn9, b12, bk12, ba0, bka0, bna0, b2, bk2, br0, brk0, br1, br2, brk2, brn2, eq_false c1, eq_false c2, eq_true c3, n0]) | (refine ev_ci (sp_X0_in _ _ _) ?_; try simp (disch := omega) only [b_X0_cold_0, b_X0_cold_37, b_X0_cold_44, b_X0_cold_47, b_X0_cold_79, b_X0_cold_85, zc_X0_cold_37, zc_X0_cold_44, zc_X0_cold_47, zc_X0_cold_79, zc_X0_cold_85, zif, zdr, zkb, mK_wi, mN_wi, mJ_wi, mI_wi, sI_wi, beq_self_eq_true, Bool.true_or, Bool.or_true, Bool.or_false, Bool.and_self, Bool.and_true, Bool.true_and, ↓reduceIte, ble_up0, i_cl, i_succ, zix_of, zfl_k, zup_k, zup_q, b0, b3, b4, b5, b7, bk7, bn7, b8, bk8, bn8, b9, bk9, bn9, b12, bk12, ba0, bka0, bna0, b2, bk2, br0, brk0, br1, br2, brk2, brn2, eq_false c1, eq_false c2, eq_true c3, n0]) | (refine ev_cr (sp_X0_in _ _ _) ?_; try simp (disch := omega) only [b_X0_cold_0, b_X0_cold_37, b_X0_cold_44, b_X0_cold_47, b_X0_cold_79, b_X0_cold_85, zc_X0_cold_37, zc_X0_cold_44, zc_X0_cold_47, zc_X0_cold_79, zc_X0_cold_85, zif, zdr, zkb, mK_wi, mN_wi, mJ_wi, mI_wi, sI_wi, beq_self_eq_true, Bool.true_or, Bool.or_true, Bool.or_false, Bool.and_self, Bool.and_true, Bool.true_and, ↓reduceIte, ble_up0, i_cl, i_succ, zix_of, zfl_k, zup_k, zup_q, b0, b3, b4, b5, b7, bk7, bn7, b8, bk8, bn8, b9, bk9, bn9, b12, bk12, ba0, bka0, bna0, b2, bk2, br0, brk0, br1, br2, brk2, brn2, eq_false c1, eq_false c2, eq_true c3, n0]) | (refine ev_cg (sp_X0_in _ _ _) ?_; try simp (disch := omega) only [b_X0_cold_0, b_X0_cold_37, b_X0_cold_44, b_X0_cold_47, b_X0_cold_79, b_X0_cold_85, zc_X0_cold_37, zc_X0_cold_44, zc_X0_cold_47, zc_X0_cold_79, zc_X0_cold_85, zif, zdr, zkb, mK_wi, mN_wi, mJ_wi, mI_wi, sI_wi, beq_self_eq_true, Bool.true_or, Bool.or_true, Bool.or_false, Bool.and_self, Bool.and_true, Bool.true_and, ↓reduceIte, ble_up0, i_cl, i_succ, zix_of, zfl_k, zup_k, zup_q, b0, b3, b4, b5, b7, bk7, bn7, b8, bk8, bn8, b9, bk9, bn9, b12, bk12, ba0, bka0, bna0, b2, bk2, br0, brk0, br1, br2, brk2, brn2, eq_false c1, eq_false c2, eq_true c3, n0]))
        case b3 => exact h.tr hi (by simp (disch := omega) only [zfl_k, zfl_q, zup_k, zup_q]) (by simp (disch := omega) only [zfl_k, zfl_q, zup_k, zup_q]) (fun a k h1 h2 h3 h4 h5 => by simp (disch := omega) only [zfl_k, zfl_q, zup_k, zup_q])
        case c3 => repeat (first | exact zfI.rf | refine zfI.put ?_ (by omega) (by omega))
  · rw [if_neg c0]
    obtain ⟨r1, r2, r3, r4, r5⟩ := cold_r c0
    have c1 : (tin a 0 333 = 0) = False := eq_false (fun q => c0 (Or.inl q))
    have c2 : (tin b a 333 = 0) = False := eq_false (fun q => c0 (Or.inr (Or.inl q)))
    have c3 : (tin c (-50) 20 = 0) = False := eq_false (fun q => c0 (Or.inr (Or.inr q)))
    generalize nn a = na at *
    generalize nn b = nb at *
    subst r1
    subst r2
    have hb := h.bg hi
    have e6 := hb.2.2.1.1.un.1.2.2.1
    refine ⟨zcd (zup (zup I B 13 0) B 15 (-1)) (B + 5 + 3) na (nb + 1) (gV G 0 2) c, ?_, ?_, fun x j q => ?_⟩
    · refine zcl_in' zP_X0_cold ?_; rw [zn_4_5]
      refine zat_in zP_X0_cold zk_X0_cold_0 ?_
      simp (disch := omega) only [b_X0_cold_0, zif, zdr, zkb, mK_wi, mN_wi, mJ_wi, mI_wi, sI_wi, beq_self_eq_true, Bool.true_or, Bool.or_true, Bool.or_false, Bool.and_self, Bool.and_true, Bool.true_and, ↓reduceIte, ble_up0, i_cl, i_succ, zix_of, zfl_k, zup_k, zup_q, b0, b3, b4, b5, b7, bk7, bn7, b8, bk8, bn8, b9, bk9, bn9, b12, bk12, ba0, bka0, bna0, b2, bk2, br0, brk0, br1, br2, brk2, brn2]
      refine ev_cv (sp_X0_begins hB b0) ?_
      refine ev_ci (sp_X0_in _ _ _) ?_
      simp (disch := omega) only [zif, zdr, zkb, mK_wi, mN_wi, mJ_wi, mI_wi, sI_wi, beq_self_eq_true, Bool.true_or, Bool.or_true, Bool.or_false, Bool.and_self, Bool.and_true, Bool.true_and, ↓reduceIte, ble_up0, i_cl, i_succ, zix_of, zfl_k, zup_k, zup_q, b0, b3, b4, b5, b7, bk7, bn7, b8, bk8, bn8, b9, bk9, bn9, b12, bk12, ba0, bka0, bna0, b2, bk2, br0, brk0, br1, br2, brk2, brn2, c1]
      refine ev_ci (sp_X0_in _ _ _) ?_
      simp (disch := omega) only [zif, zdr, zkb, mK_wi, mN_wi, mJ_wi, mI_wi, sI_wi, beq_self_eq_true, Bool.true_or, Bool.or_true, Bool.or_false, Bool.and_self, Bool.and_true, Bool.true_and, ↓reduceIte, ble_up0, i_cl, i_succ, zix_of, zfl_k, zup_k, zup_q, b0, b3, b4, b5, b7, bk7, bn7, b8, bk8, bn8, b9, bk9, bn9, b12, bk12, ba0, bka0, bna0, b2, bk2, br0, brk0, br1, br2, brk2, brn2, c2]
      refine ev_ci (sp_X0_in _ _ _) ?_
      simp (disch := omega) only [zif, zdr, zkb, mK_wi, mN_wi, mJ_wi, mI_wi, sI_wi, beq_self_eq_true, Bool.true_or, Bool.or_true, Bool.or_false, Bool.and_self, Bool.and_true, Bool.true_and, ↓reduceIte, ble_up0, i_cl, i_succ, zix_of, zfl_k, zup_k, zup_q, b0, b3, b4, b5, b7, bk7, bn7, b8, bk8, bn8, b9, bk9, bn9, b12, bk12, ba0, bka0, bna0, b2, bk2, br0, brk0, br1, br2, brk2, brn2, c3]
      refine ev_bk ?_
      refine zat_in zP_X0_cold zk_X0_cold_44 ?_
      have e44 := @b_X0_cold_44
      simp only [e44]
      refine ev_tl zP_X0_cold zk_X0_cold_47 ?_
      have := lp_X0_cold (E := E) (d := d + 1) (a := Int32.ofNat na) (b := Int32.ofNat nb) (c := c) (s := gV G 0 2) hB hcs rfl (by omega) (nb + 1 - na) na (by omega) (zup (zup I B 13 0) B 15 (-1)) e6 (Sum.inl (some (zi 1)), zwi S (zcd (zup (zup I B 13 0) B 15 (-1)) (B + 5 + 3) na (nb + 1) (gV G 0 2) c)) (by
        refine zat_in zP_X0_cold zk_X0_cold_85 ?_; simp (disch := omega) only [b_X0_cold_85, zif, zdr, zkb, mK_wi, mN_wi, mJ_wi, mI_wi, sI_wi, beq_self_eq_true, Bool.true_or, Bool.or_true, Bool.or_false, Bool.and_self, Bool.and_true, Bool.true_and, ↓reduceIte]
        exact ev_r)
      exact this
    · refine h.nw hi ⟨wP_cold hb.2.2.1.1 (fun x j _ _ => rfl), fun k hk => ?_⟩ ?_ ?_ (fun a k h1 h2 h3 h4 h5 h6 => ?_)
      · rw [vCold_i (by omega)] at hk
        exact (hb.2.2.1.2 k hk).fr (hi.1.ok k hk).1 (fun a i h1 h2 => zcd_k (by omega))
      · rw [zcd_k (by omega)]
        simp (disch := omega) only [zfl_k, zfl_q, zup_k, zup_q]
      · rw [zcd_k (by omega)]
        simp (disch := omega) only [zfl_k, zfl_q, zup_k, zup_q]
      · rw [zcd_k (by omega)]
        simp (disch := omega) only [zfl_k, zfl_q, zup_k, zup_q]
    · rw [zcd_k (by omega), zup_k (by omega), zup_k (by omega)]
theorem lp_X6_cold {a b c : Int32} (hB : E.1 ≤ w) (hS : mWT S w) (hb : b = Int32.ofNat n) (hn : n < 334) {s : Int32} : ∀ m k : Nat, k + m = n + 1 → ∀ I : Nat → Nat → Int32, I w 6 = s → ∀ r, zAt E d 123 73 [some (zr (some w)), some (zi a), some (zi b), some (zi c), some (zi (Int32.ofNat (n + 1)))] [] (zwi S (zcd I (w + 3) k (n + 1) s c)) r → zAt E d 123 41 [some (zr (some w)), some (zi a), some (zi b), some (zi c), some (zi (Int32.ofNat k))] [] (zwi S I) r := by
  obtain ⟨⟨w0, ⟨wa1, wa2, wa3⟩, ⟨wb1, wb2, wb3⟩, ⟨wc1, wc2, wc3⟩⟩, ⟨w1, w2, w3⟩, w4⟩ := id hS
  intro m
  induction m with
  | zero =>
    intro k hk I e6 r hr
    obtain rfl : k = n + 1 := hk
    rw [zcd_0 (by omega)] at hr
    have hl : (b < Int32.ofNat (n + 1)) = True := by
      rw [hb, i_lt (by omega) (by omega)]
      exact eq_true (by omega)
    refine zat_in zP_X6_cold zk_X6_cold_41 ?_
    simp (disch := omega) only [b_X6_cold_41, zif, zdr, zkb, mK_wi, mN_wi, mJ_wi, mI_wi, sI_wi, beq_self_eq_true, Bool.true_or, Bool.or_true, Bool.or_false, Bool.and_self, Bool.and_true, Bool.true_and, ↓reduceIte, ble_up0, i_cl, i_succ, zix_of, zfl_k, zup_k, zup_q, hl]
    exact ev_bk hr
  | succ m ih =>
    intro k hk I e6 r hr
    have hl : (b < Int32.ofNat k) = False := by
      rw [hb, i_lt (by omega) (by omega)]
      exact eq_false (by omega)
    by_cases c1 : 6 * Int32.ofNat k < s
    · have := ih (k + 1) (by omega) I e6 r (by rw [zcd_n c1]; exact hr)
      refine zat_in zP_X6_cold zk_X6_cold_41 ?_
      simp (disch := omega) only [b_X6_cold_41, zif, zdr, zkb, mK_wi, mN_wi, mJ_wi, mI_wi, sI_wi, beq_self_eq_true, Bool.true_or, Bool.or_true, Bool.or_false, Bool.and_self, Bool.and_true, Bool.true_and, ↓reduceIte, ble_up0, i_cl, i_succ, zix_of, zfl_k, zup_k, zup_q, w0, wa1, wa2, wa3, wb1, wb2, wb3, wc1, wc2, wc3, w1, w2, w3, hl, e6, eq_true c1]
      refine ev_bk ?_
      refine zat_in zP_X6_cold zk_X6_cold_67 ?_; simp (disch := omega) only [b_X6_cold_67, zif, zdr, zkb, mK_wi, mN_wi, mJ_wi, mI_wi, sI_wi, beq_self_eq_true, Bool.true_or, Bool.or_true, Bool.or_false, Bool.and_self, Bool.and_true, Bool.true_and, ↓reduceIte, ble_up0, i_cl, i_succ, zix_of, zfl_k, zup_k, zup_q]
      exact ev_bk this
    · have := ih (k + 1) (by omega) (zup I (w + 3) k c) ((zup_k (by omega)).trans e6) r (by rw [zcd_s (by omega) c1]; exact hr)
      refine zat_in zP_X6_cold zk_X6_cold_41 ?_
      simp (disch := omega) only [b_X6_cold_41, zif, zdr, zkb, mK_wi, mN_wi, mJ_wi, mI_wi, sI_wi, beq_self_eq_true, Bool.true_or, Bool.or_true, Bool.or_false, Bool.and_self, Bool.and_true, Bool.true_and, ↓reduceIte, ble_up0, i_cl, i_succ, zix_of, zfl_k, zup_k, zup_q, w0, wa1, wa2, wa3, wb1, wb2, wb3, wc1, wc2, wc3, w1, w2, w3, hl, e6, eq_false c1]
      refine ev_tl zP_X6_cold zk_X6_cold_67 ?_
      refine zat_in zP_X6_cold zk_X6_cold_67 ?_; simp (disch := omega) only [b_X6_cold_67, zif, zdr, zkb, mK_wi, mN_wi, mJ_wi, mI_wi, sI_wi, beq_self_eq_true, Bool.true_or, Bool.or_true, Bool.or_false, Bool.and_self, Bool.and_true, Bool.true_and, ↓reduceIte, ble_up0, i_cl, i_succ, zix_of, zfl_k, zup_k, zup_q]
      exact ev_bk this
theorem mp_cold (hB : E.1 ≤ w) (h : MG S I w G) (hi : IG G) (a b c : Int32) : ∃ I', zCl E (d + 1) 123 [zr (some w), zi a, zi b, zi c] (zwi S I) (Sum.inl (some (zi (oCold G a b c).1)), zwi S I') ∧ MG S I' w (oCold G a b c).2 ∧ zfI w (w + 148) I I' := by
  have hcs := h.1
  have hwn := hcs.1
  obtain ⟨⟨w0, ⟨wa1, wa2, wa3⟩, ⟨wb1, wb2, wb3⟩, ⟨wc1, wc2, wc3⟩⟩, ⟨w1, w2, w3⟩, w4⟩ := id hwn
  have n0 : ((0 : Int32) == 0 || (0 : Int32) == 1) = true := by decide
  have n1 : ((1 : Int32) == 0 || (1 : Int32) == 1) = true := by decide
  unfold oCold
  by_cases c0 : tin a 0 333 = 0 ∨ tin b a 333 = 0 ∨ tin c (-50) 20 = 0
  · rw [if_pos c0]
    rw [cold_c] at c0
    by_cases c1 : a < 0
    · skip
      refine ⟨?w1, ?a1, ?b1, ?c1⟩
      case a1 =>
        refine zcl_in' zP_X6_cold ?_; rw [zn_4_5]
        (first | refine zat_in zP_X6_cold zk_X6_cold_0 ?_ | refine zat_in zP_X6_cold zk_X6_cold_32 ?_ | refine zat_in zP_X6_cold zk_X6_cold_38 ?_ | refine zat_in zP_X6_cold zk_X6_cold_41 ?_ | refine zat_in zP_X6_cold zk_X6_cold_67 ?_ | refine zat_in zP_X6_cold zk_X6_cold_73 ?_) <;> simp (disch := omega) only [b_X6_cold_0, b_X6_cold_32, b_X6_cold_38, b_X6_cold_41, b_X6_cold_67, b_X6_cold_73, zc_X6_cold_32, zc_X6_cold_38, zc_X6_cold_41, zc_X6_cold_67, zc_X6_cold_73, zif, zdr, zkb, mK_wi, mN_wi, mJ_wi, mI_wi, sI_wi, beq_self_eq_true, Bool.true_or, Bool.or_true, Bool.or_false, Bool.and_self, Bool.and_true, Bool.true_and, ↓reduceIte, ble_up0, i_cl, i_succ, zix_of, zfl_k, zup_k, zup_q, w0, wa1, wa2, wa3, wb1, wb2, wb3, wc1, wc2, wc3, w1, w2, w3, eq_true c1, n0]; repeat (first | exact ev_r | (refine ev_bk ?_; ((first | refine zat_in zP_X6_cold zk_X6_cold_0 ?_ | refine zat_in zP_X6_cold zk_X6_cold_32 ?_ | refine zat_in zP_X6_cold zk_X6_cold_38 ?_ | refine zat_in zP_X6_cold zk_X6_cold_41 ?_ | refine zat_in zP_X6_cold zk_X6_cold_67 ?_ | refine zat_in zP_X6_cold zk_X6_cold_73 ?_) <;> simp (disch := omega) only [b_X6_cold_0, b_X6_cold_32, b_X6_cold_38, b_X6_cold_41, b_X6_cold_67, b_X6_cold_73, zc_X6_cold_32, zc_X6_cold_38, zc_X6_cold_41, zc_X6_cold_67, zc_X6_cold_73, zif, zdr, zkb, mK_wi, mN_wi, mJ_wi, mI_wi, sI_wi, beq_self_eq_true, Bool.true_or, Bool.or_true, Bool.or_false, Bool.and_self, Bool.and_true, Bool.true_and, ↓reduceIte, ble_up0, i_cl, i_succ, zix_of, zfl_k, zup_k, zup_q, w0, wa1, wa2, wa3, wb1, wb2, wb3, wc1, wc2, wc3, w1, w2, w3, eq_true c1, n0])) | (refine ev_cv (sp_X6_denied hB w0) ?_; try simp (disch := omega) only [b_X6_cold_0, b_X6_cold_32, b_X6_cold_38, b_X6_cold_41, b_X6_cold_67, b_X6_cold_73, zc_X6_cold_32, zc_X6_cold_38, zc_X6_cold_41, zc_X6_cold_67, zc_X6_cold_73, zif, zdr, zkb, mK_wi, mN_wi, mJ_wi, mI_wi, sI_wi, beq_self_eq_true, Bool.true_or, Bool.or_true, Bool.or_false, Bool.and_self, Bool.and_true, Bool.true_and, ↓reduceIte, ble_up0, i_cl, i_succ, zix_of, zfl_k, zup_k, zup_q, w0, wa1, wa2, wa3, wb1, wb2, wb3, wc1, wc2, wc3, w1, w2, w3, eq_true c1, n0]) | (refine ev_ci (sp_X6_denied hB w0) ?_; try simp (disch := omega) only [b_X6_cold_0, b_X6_cold_32, b_X6_cold_38, b_X6_cold_41, b_X6_cold_67, b_X6_cold_73, zc_X6_cold_32, zc_X6_cold_38, zc_X6_cold_41, zc_X6_cold_67, zc_X6_cold_73, zif, zdr, zkb, mK_wi, mN_wi, mJ_wi, mI_wi, sI_wi, beq_self_eq_true, Bool.true_or, Bool.or_true, Bool.or_false, Bool.and_self, Bool.and_true, Bool.true_and, ↓reduceIte, ble_up0, i_cl, i_succ, zix_of, zfl_k, zup_k, zup_q, w0, wa1, wa2, wa3, wb1, wb2, wb3, wc1, wc2, wc3, w1, w2, w3, eq_true c1, n0]) | (refine ev_cr (sp_X6_denied hB w0) ?_; try simp (disch := omega) only [b_X6_cold_0, b_X6_cold_32, b_X6_cold_38, b_X6_cold_41, b_X6_cold_67, b_X6_cold_73, zc_X6_cold_32, zc_X6_cold_38, zc_X6_cold_41, zc_X6_cold_67, zc_X6_cold_73, zif, zdr, zkb, mK_wi, mN_wi, mJ_wi, mI_wi, sI_wi, beq_self_eq_true, Bool.true_or, Bool.or_true, Bool.or_false, Bool.and_self, Bool.and_true, Bool.true_and, ↓reduceIte, ble_up0, i_cl, i_succ, zix_of, zfl_k, zup_k, zup_q, w0, wa1, wa2, wa3, wb1, wb2, wb3, wc1, wc2, wc3, w1, w2, w3, eq_true c1, n0]) | (refine ev_cg (sp_X6_denied hB w0) ?_; try simp (disch := omega) only [b_X6_cold_0, b_X6_cold_32, b_X6_cold_38, b_X6_cold_41, b_X6_cold_67, b_X6_cold_73, zc_X6_cold_32, zc_X6_cold_38, zc_X6_cold_41, zc_X6_cold_67, zc_X6_cold_73, zif, zdr, zkb, mK_wi, mN_wi, mJ_wi, mI_wi, sI_wi, beq_self_eq_true, Bool.true_or, Bool.or_true, Bool.or_false, Bool.and_self, Bool.and_true, Bool.true_and, ↓reduceIte, ble_up0, i_cl, i_succ, zix_of, zfl_k, zup_k, zup_q, w0, wa1, wa2, wa3, wb1, wb2, wb3, wc1, wc2, wc3, w1, w2, w3, eq_true c1, n0]))
      case b1 => exact h.tr hi (by simp (disch := omega) only [zfl_k, zfl_q, zup_k, zup_q]) (by simp (disch := omega) only [zfl_k, zfl_q, zup_k, zup_q]) (fun a k h1 h2 h3 => by simp (disch := omega) only [zfl_k, zfl_q, zup_k, zup_q])
      case c1 => repeat (first | exact zfI.rf | refine zfI.put ?_ (by omega) (by omega))
    · by_cases c2 : b < a
      · skip
        refine ⟨?w2, ?a2, ?b2, ?c2⟩
        case a2 =>
          refine zcl_in' zP_X6_cold ?_; rw [zn_4_5]
          (first | refine zat_in zP_X6_cold zk_X6_cold_0 ?_ | refine zat_in zP_X6_cold zk_X6_cold_32 ?_ | refine zat_in zP_X6_cold zk_X6_cold_38 ?_ | refine zat_in zP_X6_cold zk_X6_cold_41 ?_ | refine zat_in zP_X6_cold zk_X6_cold_67 ?_ | refine zat_in zP_X6_cold zk_X6_cold_73 ?_) <;> simp (disch := omega) only [b_X6_cold_0, b_X6_cold_32, b_X6_cold_38, b_X6_cold_41, b_X6_cold_67, b_X6_cold_73, zc_X6_cold_32, zc_X6_cold_38, zc_X6_cold_41, zc_X6_cold_67, zc_X6_cold_73, zif, zdr, zkb, mK_wi, mN_wi, mJ_wi, mI_wi, sI_wi, beq_self_eq_true, Bool.true_or, Bool.or_true, Bool.or_false, Bool.and_self, Bool.and_true, Bool.true_and, ↓reduceIte, ble_up0, i_cl, i_succ, zix_of, zfl_k, zup_k, zup_q, w0, wa1, wa2, wa3, wb1, wb2, wb3, wc1, wc2, wc3, w1, w2, w3, eq_false c1, eq_true c2, n0]; repeat (first | exact ev_r | (refine ev_bk ?_; ((first | refine zat_in zP_X6_cold zk_X6_cold_0 ?_ | refine zat_in zP_X6_cold zk_X6_cold_32 ?_ | refine zat_in zP_X6_cold zk_X6_cold_38 ?_ | refine zat_in zP_X6_cold zk_X6_cold_41 ?_ | refine zat_in zP_X6_cold zk_X6_cold_67 ?_ | refine zat_in zP_X6_cold zk_X6_cold_73 ?_) <;> simp (disch := omega) only [b_X6_cold_0, b_X6_cold_32, b_X6_cold_38, b_X6_cold_41, b_X6_cold_67, b_X6_cold_73, zc_X6_cold_32, zc_X6_cold_38, zc_X6_cold_41, zc_X6_cold_67, zc_X6_cold_73, zif, zdr, zkb, mK_wi, mN_wi, mJ_wi, mI_wi, sI_wi, beq_self_eq_true, Bool.true_or, Bool.or_true, Bool.or_false, Bool.and_self, Bool.and_true, Bool.true_and, ↓reduceIte, ble_up0, i_cl, i_succ, zix_of, zfl_k, zup_k, zup_q, w0, wa1, wa2, wa3, wb1, wb2, wb3, wc1, wc2, wc3, w1, w2, w3, eq_false c1, eq_true c2, n0])) | (refine ev_cv (sp_X6_denied hB w0) ?_; try simp (disch := omega) only [b_X6_cold_0, b_X6_cold_32, b_X6_cold_38, b_X6_cold_41, b_X6_cold_67, b_X6_cold_73, zc_X6_cold_32, zc_X6_cold_38, zc_X6_cold_41, zc_X6_cold_67, zc_X6_cold_73, zif, zdr, zkb, mK_wi, mN_wi, mJ_wi, mI_wi, sI_wi, beq_self_eq_true, Bool.true_or, Bool.or_true, Bool.or_false, Bool.and_self, Bool.and_true, Bool.true_and, ↓reduceIte, ble_up0, i_cl, i_succ, zix_of, zfl_k, zup_k, zup_q, w0, wa1, wa2, wa3, wb1, wb2, wb3, wc1, wc2, wc3, w1, w2, w3, eq_false c1, eq_true c2, n0]) | (refine ev_ci (sp_X6_denied hB w0) ?_; try simp (disch := omega) only [b_X6_cold_0, b_X6_cold_32, b_X6_cold_38, b_X6_cold_41, b_X6_cold_67, b_X6_cold_73, zc_X6_cold_32, zc_X6_cold_38, zc_X6_cold_41, zc_X6_cold_67, zc_X6_cold_73, zif, zdr, zkb, mK_wi, mN_wi, mJ_wi, mI_wi, sI_wi, beq_self_eq_true, Bool.true_or, Bool.or_true, Bool.or_false, Bool.and_self, Bool.and_true, Bool.true_and, ↓reduceIte, ble_up0, i_cl, i_succ, zix_of, zfl_k, zup_k, zup_q, w0, wa1, wa2, wa3, wb1, wb2, wb3, wc1, wc2, wc3, w1, w2, w3, eq_false c1, eq_true c2, n0]) | (refine ev_cr (sp_X6_denied hB w0) ?_; try simp (disch := omega) only [b_X6_cold_0, b_X6_cold_32, b_X6_cold_38, b_X6_cold_41, b_X6_cold_67, b_X6_cold_73, zc_X6_cold_32, zc_X6_cold_38, zc_X6_cold_41, zc_X6_cold_67, zc_X6_cold_73, zif, zdr, zkb, mK_wi, mN_wi, mJ_wi, mI_wi, sI_wi, beq_self_eq_true, Bool.true_or, Bool.or_true, Bool.or_false, Bool.and_self, Bool.and_true, Bool.true_and, ↓reduceIte, ble_up0, i_cl, i_succ, zix_of, zfl_k, zup_k, zup_q, w0, wa1, wa2, wa3, wb1, wb2, wb3, wc1, wc2, wc3, w1, w2, w3, eq_false c1, eq_true c2, n0]) | (refine ev_cg (sp_X6_denied hB w0) ?_; try simp (disch := omega) only [b_X6_cold_0, b_X6_cold_32, b_X6_cold_38, b_X6_cold_41, b_X6_cold_67, b_X6_cold_73, zc_X6_cold_32, zc_X6_cold_38, zc_X6_cold_41, zc_X6_cold_67, zc_X6_cold_73, zif, zdr, zkb, mK_wi, mN_wi, mJ_wi, mI_wi, sI_wi, beq_self_eq_true, Bool.true_or, Bool.or_true, Bool.or_false, Bool.and_self, Bool.and_true, Bool.true_and, ↓reduceIte, ble_up0, i_cl, i_succ, zix_of, zfl_k, zup_k, zup_q, w0, wa1, wa2, wa3, wb1, wb2, wb3, wc1, wc2, wc3, w1, w2, w3, eq_false c1, eq_true c2, n0]))
        case b2 => exact h.tr hi (by simp (disch := omega) only [zfl_k, zfl_q, zup_k, zup_q]) (by simp (disch := omega) only [zfl_k, zfl_q, zup_k, zup_q]) (fun a k h1 h2 h3 => by simp (disch := omega) only [zfl_k, zfl_q, zup_k, zup_q])
        case c2 => repeat (first | exact zfI.rf | refine zfI.put ?_ (by omega) (by omega))
      · by_cases c4 : 334 ≤ b
        · skip
          refine ⟨?w4, ?a4, ?b4, ?c4⟩
          case a4 =>
            refine zcl_in' zP_X6_cold ?_; rw [zn_4_5]
            (first | refine zat_in zP_X6_cold zk_X6_cold_0 ?_ | refine zat_in zP_X6_cold zk_X6_cold_32 ?_ | refine zat_in zP_X6_cold zk_X6_cold_38 ?_ | refine zat_in zP_X6_cold zk_X6_cold_41 ?_ | refine zat_in zP_X6_cold zk_X6_cold_67 ?_ | refine zat_in zP_X6_cold zk_X6_cold_73 ?_) <;> simp (disch := omega) only [b_X6_cold_0, b_X6_cold_32, b_X6_cold_38, b_X6_cold_41, b_X6_cold_67, b_X6_cold_73, zc_X6_cold_32, zc_X6_cold_38, zc_X6_cold_41, zc_X6_cold_67, zc_X6_cold_73, zif, zdr, zkb, mK_wi, mN_wi, mJ_wi, mI_wi, sI_wi, beq_self_eq_true, Bool.true_or, Bool.or_true, Bool.or_false, Bool.and_self, Bool.and_true, Bool.true_and, ↓reduceIte, ble_up0, i_cl, i_succ, zix_of, zfl_k, zup_k, zup_q, w0, wa1, wa2, wa3, wb1, wb2, wb3, wc1, wc2, wc3, w1, w2, w3, eq_false c1, eq_false c2, eq_true c4, n0]; repeat (first | exact ev_r | (refine ev_bk ?_; ((first | refine zat_in zP_X6_cold zk_X6_cold_0 ?_ | refine zat_in zP_X6_cold zk_X6_cold_32 ?_ | refine zat_in zP_X6_cold zk_X6_cold_38 ?_ | refine zat_in zP_X6_cold zk_X6_cold_41 ?_ | refine zat_in zP_X6_cold zk_X6_cold_67 ?_ | refine zat_in zP_X6_cold zk_X6_cold_73 ?_) <;> simp (disch := omega) only [b_X6_cold_0, b_X6_cold_32, b_X6_cold_38, b_X6_cold_41, b_X6_cold_67, b_X6_cold_73, zc_X6_cold_32, zc_X6_cold_38, zc_X6_cold_41, zc_X6_cold_67, zc_X6_cold_73, zif, zdr, zkb, mK_wi, mN_wi, mJ_wi, mI_wi, sI_wi, beq_self_eq_true, Bool.true_or, Bool.or_true, Bool.or_false, Bool.and_self, Bool.and_true, Bool.true_and, ↓reduceIte, ble_up0, i_cl, i_succ, zix_of, zfl_k, zup_k, zup_q, w0, wa1, wa2, wa3, wb1, wb2, wb3, wc1, wc2, wc3, w1, w2, w3, eq_false c1, eq_false c2, eq_true c4, n0])) | (refine ev_cv (sp_X6_denied hB w0) ?_; try simp (disch := omega) only [b_X6_cold_0, b_X6_cold_32, b_X6_cold_38, b_X6_cold_41, b_X6_cold_67, b_X6_cold_73, zc_X6_cold_32, zc_X6_cold_38, zc_X6_cold_41, zc_X6_cold_67, zc_X6_cold_73, zif, zdr, zkb, mK_wi, mN_wi, mJ_wi, mI_wi, sI_wi, beq_self_eq_true, Bool.true_or, Bool.or_true, Bool.or_false, Bool.and_self, Bool.and_true, Bool.true_and, ↓reduceIte, ble_up0, i_cl, i_succ, zix_of, zfl_k, zup_k, zup_q, w0, wa1, wa2, wa3, wb1, wb2, wb3, wc1, wc2, wc3, w1, w2, w3, eq_false c1, eq_false c2, eq_true c4, n0]) | (refine ev_ci (sp_X6_denied hB w0) ?_; try simp (disch := omega) only [b_X6_cold_0, b_X6_cold_32, b_X6_cold_38, b_X6_cold_41, b_X6_cold_67, b_X6_cold_73, zc_X6_cold_32, zc_X6_cold_38, zc_X6_cold_41, zc_X6_cold_67, zc_X6_cold_73, zif, zdr, zkb, mK_wi, mN_wi, mJ_wi, mI_wi, sI_wi, beq_self_eq_true, Bool.true_or, Bool.or_true, Bool.or_false, Bool.and_self, Bool.and_true, Bool.true_and, ↓reduceIte, ble_up0, i_cl, i_succ, zix_of, zfl_k, zup_k, zup_q, w0, wa1, wa2, wa3, wb1, wb2, wb3, wc1, wc2, wc3, w1, w2, w3, eq_false c1, eq_false c2, eq_true c4, n0]) | (refine ev_cr (sp_X6_denied hB w0) ?_; try simp (disch := omega) only [b_X6_cold_0, b_X6_cold_32, b_X6_cold_38, b_X6_cold_41, b_X6_cold_67, b_X6_cold_73, zc_X6_cold_32, zc_X6_cold_38, zc_X6_cold_41, zc_X6_cold_67, zc_X6_cold_73, zif, zdr, zkb, mK_wi, mN_wi, mJ_wi, mI_wi, sI_wi, beq_self_eq_true, Bool.true_or, Bool.or_true, Bool.or_false, Bool.and_self, Bool.and_true, Bool.true_and, ↓reduceIte, ble_up0, i_cl, i_succ, zix_of, zfl_k, zup_k, zup_q, w0, wa1, wa2, wa3, wb1, wb2, wb3, wc1, wc2, wc3, w1, w2, w3, eq_false c1, eq_false c2, eq_true c4, n0]) | (refine ev_cg (sp_X6_denied hB w0) ?_; try simp (disch := omega) only [b_X6_cold_0, b_X6_cold_32, b_X6_cold_38, b_X6_cold_41, b_X6_cold_67, b_X6_cold_73, zc_X6_cold_32, zc_X6_cold_38, zc_X6_cold_41, zc_X6_cold_67, zc_X6_cold_73, zif, zdr, zkb, mK_wi, mN_wi, mJ_wi, mI_wi, sI_wi, beq_self_eq_true, Bool.true_or, Bool.or_true, Bool.or_false, Bool.and_self, Bool.and_true, Bool.true_and, ↓reduceIte, ble_up0, i_cl, i_succ, zix_of, zfl_k, zup_k, zup_q, w0, wa1, wa2, wa3, wb1, wb2, wb3, wc1, wc2, wc3, w1, w2, w3, eq_false c1, eq_false c2, eq_true c4, n0]))
          case b4 => exact h.tr hi (by simp (disch := omega) only [zfl_k, zfl_q, zup_k, zup_q]) (by simp (disch := omega) only [zfl_k, zfl_q, zup_k, zup_q]) (fun a k h1 h2 h3 => by simp (disch := omega) only [zfl_k, zfl_q, zup_k, zup_q])
          case c4 => repeat (first | exact zfI.rf | refine zfI.put ?_ (by omega) (by omega))
        · have c3 : tin c (-50) 20 = 0 := by
            rcases c0 with q | q | q | q
            · exact absurd q c1
            · exact absurd q c2
            · exact absurd q c4
            · exact q
          refine ⟨?w3, ?a3, ?b3, ?c3⟩
          case a3 =>
            refine zcl_in' zP_X6_cold ?_; rw [zn_4_5]
            (first | refine zat_in zP_X6_cold zk_X6_cold_0 ?_ | refine zat_in zP_X6_cold zk_X6_cold_32 ?_ | refine zat_in zP_X6_cold zk_X6_cold_38 ?_ | refine zat_in zP_X6_cold zk_X6_cold_41 ?_ | refine zat_in zP_X6_cold zk_X6_cold_67 ?_ | refine zat_in zP_X6_cold zk_X6_cold_73 ?_) <;> simp (disch := omega) only [b_X6_cold_0, b_X6_cold_32, b_X6_cold_38, b_X6_cold_41, b_X6_cold_67, b_X6_cold_73, zc_X6_cold_32, zc_X6_cold_38, zc_X6_cold_41, zc_X6_cold_67, zc_X6_cold_73, zif, zdr, zkb, mK_wi, mN_wi, mJ_wi, mI_wi, sI_wi, beq_self_eq_true, Bool.true_or, Bool.or_true, Bool.or_false, Bool.and_self, Bool.and_true, Bool.true_and, ↓reduceIte, ble_up0, i_cl, i_succ, zix_of, zfl_k, zup_k, zup_q, w0, wa1, wa2, wa3, wb1, wb2, wb3, wc1, wc2, wc3, w1, w2, w3, eq_false c1, eq_false c2, eq_false c4, eq_true c3, n0]; repeat (first | exact ev_r | (refine ev_bk ?_; ((first | refine zat_in zP_X6_cold zk_X6_cold_0 ?_ | refine zat_in zP_X6_cold zk_X6_cold_32 ?_ | refine zat_in zP_X6_cold zk_X6_cold_38 ?_ | refine zat_in zP_X6_cold zk_X6_cold_41 ?_ | refine zat_in zP_X6_cold zk_X6_cold_67 ?_ | refine zat_in zP_X6_cold zk_X6_cold_73 ?_) <;> simp (disch := omega) only [b_X6_cold_0, b_X6_cold_32, b_X6_cold_38, b_X6_cold_41, b_X6_cold_67, b_X6_cold_73, zc_X6_cold_32, zc_X6_cold_38, zc_X6_cold_41, zc_X6_cold_67, zc_X6_cold_73, zif, zdr, zkb, mK_wi, mN_wi, mJ_wi, mI_wi, sI_wi, beq_self_eq_true, Bool.true_or, Bool.or_true, Bool.or_false, Bool.and_self, Bool.and_true, Bool.true_and, ↓reduceIte, ble_up0, i_cl, i_succ, zix_of, zfl_k, zup_k, zup_q, w0, wa1, wa2, wa3, wb1, wb2, wb3, wc1, wc2, wc3, w1, w2, w3, eq_false c1, eq_false c2, eq_false c4, eq_true c3, n0])) | (refine ev_cv (sp_X6_in _ _ _) ?_; try simp (disch := omega) only [b_X6_cold_0, b_X6_cold_32, b_X6_cold_38, b_X6_cold_41, b_X6_cold_67, b_X6_cold_73, zc_X6_cold_32, zc_X6_cold_38, zc_X6_cold_41, zc_X6_cold_67, zc_X6_cold_73, zif, zdr, zkb, mK_wi, mN_wi, mJ_wi, mI_wi, sI_wi, beq_self_eq_true, Bool.true_or, Bool.or_true, Bool.or_false, Bool.and_self, Bool.and_true, Bool.true_and, ↓reduceIte, ble_up0, i_cl, i_succ, zix_of, zfl_k, zup_k, zup_q, w0, wa1, wa2, wa3, wb1, wb2, wb3, wc1, wc2, wc3, w1, w2, w3, eq_false c1, eq_false c2, eq_false c4, eq_true c3, n0]) | (refine ev_ci (sp_X6_in _ _ _) ?_; try simp (disch := omega) only [b_X6_cold_0, b_X6_cold_32, b_X6_cold_38, b_X6_cold_41, b_X6_cold_67, b_X6_cold_73, zc_X6_cold_32, zc_X6_cold_38, zc_X6_cold_41, zc_X6_cold_67, zc_X6_cold_73, zif, zdr, zkb, mK_wi, mN_wi, mJ_wi, mI_wi, sI_wi, beq_self_eq_true, Bool.true_or, Bool.or_true, Bool.or_false, Bool.and_self, Bool.and_true, Bool.true_and, ↓reduceIte, ble_up0, i_cl, i_succ, zix_of, zfl_k, zup_k, zup_q, w0, wa1, wa2, wa3, wb1, wb2, wb3, wc1, wc2, wc3, w1, w2, w3, eq_false c1, eq_false c2, eq_false c4, eq_true c3, n0]) | (refine ev_cr (sp_X6_in _ _ _) ?_; try simp (disch := omega) only [b_X6_cold_0, b_X6_cold_32, b_X6_cold_38, b_X6_cold_41, b_X6_cold_67, b_X6_cold_73, zc_X6_cold_32, zc_X6_cold_38, zc_X6_cold_41, zc_X6_cold_67, zc_X6_cold_73, zif, zdr, zkb, mK_wi, mN_wi, mJ_wi, mI_wi, sI_wi, beq_self_eq_true, Bool.true_or, Bool.or_true, Bool.or_false, Bool.and_self, Bool.and_true, Bool.true_and, ↓reduceIte, ble_up0, i_cl, i_succ, zix_of, zfl_k, zup_k, zup_q, w0, wa1, wa2, wa3, wb1, wb2, wb3, wc1, wc2, wc3, w1, w2, w3, eq_false c1, eq_false c2, eq_false c4, eq_true c3, n0]) | (refine ev_cg (sp_X6_in _ _ _) ?_; try simp (disch := omega) only [b_X6_cold_0, b_X6_cold_32, b_X6_cold_38, b_X6_cold_41, b_X6_cold_67, b_X6_cold_73, zc_X6_cold_32, zc_X6_cold_38, zc_X6_cold_41, zc_X6_cold_67, zc_X6_cold_73, zif, zdr, zkb, mK_wi, mN_wi, mJ_wi, mI_wi, sI_wi, beq_self_eq_true, Bool.true_or, Bool.or_true, Bool.or_false, Bool.and_self, Bool.and_true, Bool.true_and, ↓reduceIte, ble_up0, i_cl, i_succ, zix_of, zfl_k, zup_k, zup_q, w0, wa1, wa2, wa3, wb1, wb2, wb3, wc1, wc2, wc3, w1, w2, w3, eq_false c1, eq_false c2, eq_false c4, eq_true c3, n0]) | (refine ev_cv (sp_X6_denied hB w0) ?_; try simp (disch := omega) only [b_X6_cold_0, b_X6_cold_32, b_X6_cold_38, b_X6_cold_41, b_X6_cold_67, b_X6_cold_73, zc_X6_cold_32, zc_X6_cold_38, zc_X6_cold_41, zc_X6_cold_67, zc_X6_cold_73, zif, zdr, zkb, mK_wi, mN_wi, mJ_wi, mI_wi, sI_wi, beq_self_eq_true, Bool.true_or, Bool.or_true, Bool.or_false, Bool.and_self, Bool.and_true, Bool.true_and, ↓reduceIte, ble_up0, i_cl, i_succ, zix_of, zfl_k, zup_k, zup_q, w0, wa1, wa2, wa3, wb1, wb2, wb3, wc1, wc2, wc3, w1, w2, w3, eq_false c1, eq_false c2, eq_false c4, eq_true c3, n0]) | (refine ev_ci (sp_X6_denied hB w0) ?_; try simp (disch := omega) only [b_X6_cold_0, b_X6_cold_32, b_X6_cold_38, b_X6_cold_41, b_X6_cold_67, b_X6_cold_73, zc_X6_cold_32, zc_X6_cold_38, zc_X6_cold_41, zc_X6_cold_67, zc_X6_cold_73, zif, zdr, zkb, mK_wi, mN_wi, mJ_wi, mI_wi, sI_wi, beq_self_eq_true, Bool.true_or, Bool.or_true, Bool.or_false, Bool.and_self, Bool.and_true, Bool.true_and, ↓reduceIte, ble_up0, i_cl, i_succ, zix_of, zfl_k, zup_k, zup_q, w0, wa1, wa2, wa3, wb1, wb2, wb3, wc1, wc2, wc3, w1, w2, w3, eq_false c1, eq_false c2, eq_false c4, eq_true c3, n0]) | (refine ev_cr (sp_X6_denied hB w0) ?_; try simp (disch := omega) only [b_X6_cold_0, b_X6_cold_32, b_X6_cold_38, b_X6_cold_41, b_X6_cold_67, b_X6_cold_73, zc_X6_cold_32, zc_X6_cold_38, zc_X6_cold_41, zc_X6_cold_67, zc_X6_cold_73, zif, zdr, zkb, mK_wi, mN_wi, mJ_wi, mI_wi, sI_wi, beq_self_eq_true, Bool.true_or, Bool.or_true, Bool.or_false, Bool.and_self, Bool.and_true, Bool.true_and, ↓reduceIte, ble_up0, i_cl, i_succ, zix_of, zfl_k, zup_k, zup_q, w0, wa1, wa2, wa3, wb1, wb2, wb3, wc1, wc2, wc3, w1, w2, w3, eq_false c1, eq_false c2, eq_false c4, eq_true c3, n0]) | (refine ev_cg (sp_X6_denied hB w0) ?_; try simp (disch := omega) only [b_X6_cold_0, b_X6_cold_32, b_X6_cold_38, b_X6_cold_41, b_X6_cold_67, b_X6_cold_73, zc_X6_cold_32, zc_X6_cold_38, zc_X6_cold_41, zc_X6_cold_67, zc_X6_cold_73, zif, zdr, zkb, mK_wi, mN_wi, mJ_wi, mI_wi, sI_wi, beq_self_eq_true, Bool.true_or, Bool.or_true, Bool.or_false, Bool.and_self, Bool.and_true, Bool.true_and, ↓reduceIte, ble_up0, i_cl, i_succ, zix_of, zfl_k, zup_k, zup_q, w0, wa1, wa2, wa3, wb1, wb2, wb3, wc1, wc2, wc3, w1, w2, w3, eq_false c1, eq_false c2, eq_false c4, eq_true c3, n0]))
          case b3 => exact h.tr hi (by simp (disch := omega) only [zfl_k, zfl_q, zup_k, zup_q]) (by simp (disch := omega) only [zfl_k, zfl_q, zup_k, zup_q]) (fun a k h1 h2 h3 => by simp (disch := omega) only [zfl_k, zfl_q, zup_k, zup_q])
          case c3 => repeat (first | exact zfI.rf | refine zfI.put ?_ (by omega) (by omega))
  · rw [if_neg c0]
    obtain ⟨r1, r2, r3, r4, r5⟩ := cold_r c0
    rw [cold_c] at c0
    have c1 : (a < 0) = False := eq_false (fun q => c0 (Or.inl q))
    have c2 : (b < a) = False := eq_false (fun q => c0 (Or.inr (Or.inl q)))
    have c4 : (334 ≤ b) = False := eq_false (fun q => c0 (Or.inr (Or.inr (Or.inl q))))
    have c3 : (tin c (-50) 20 = 0) = False := eq_false (fun q => c0 (Or.inr (Or.inr (Or.inr q))))
    generalize nn a = na at *
    generalize nn b = nb at *
    subst r1
    subst r2
    have hb : MG S (zup I w 0 0) w G := h.q hi (fun a k h1 h2 h3 => zup_k (by omega))
    have e6 := hb.2.2.1.1.un.1.2.2.1
    refine ⟨zup (zup (zcd (zup I w 0 0) (w + 3) na (nb + 1) (gV G 0 2) c) w 1 0) w 2 (-1), ?_, ?_, fun x j q => ?_⟩
    · refine zcl_in' zP_X6_cold ?_; rw [zn_4_5]
      refine zat_in zP_X6_cold zk_X6_cold_0 ?_
      simp (disch := omega) only [b_X6_cold_0, zif, zdr, zkb, mK_wi, mN_wi, mJ_wi, mI_wi, sI_wi, beq_self_eq_true, Bool.true_or, Bool.or_true, Bool.or_false, Bool.and_self, Bool.and_true, Bool.true_and, ↓reduceIte, ble_up0, i_cl, i_succ, zix_of, zfl_k, zup_k, zup_q, w0, wa1, wa2, wa3, wb1, wb2, wb3, wc1, wc2, wc3, w1, w2, w3, c1, c2, c4]
      refine ev_ci (sp_X6_in _ _ _) ?_
      simp (disch := omega) only [zif, zdr, zkb, mK_wi, mN_wi, mJ_wi, mI_wi, sI_wi, beq_self_eq_true, Bool.true_or, Bool.or_true, Bool.or_false, Bool.and_self, Bool.and_true, Bool.true_and, ↓reduceIte, ble_up0, i_cl, i_succ, zix_of, zfl_k, zup_k, zup_q, w0, wa1, wa2, wa3, wb1, wb2, wb3, wc1, wc2, wc3, w1, w2, w3, c3]
      refine ev_bk ?_
      refine zat_in zP_X6_cold zk_X6_cold_38 ?_
      have e38 := @b_X6_cold_38
      simp only [e38]
      refine ev_tl zP_X6_cold zk_X6_cold_41 ?_
      have := lp_X6_cold (E := E) (d := d + 1) (a := Int32.ofNat na) (b := Int32.ofNat nb) (c := c) (s := gV G 0 2) hB hwn rfl (by omega) (nb + 1 - na) na (by omega) (zup I w 0 0) e6 (Sum.inl (some (zi 1)), zwi S (zup (zup (zcd (zup I w 0 0) (w + 3) na (nb + 1) (gV G 0 2) c) w 1 0) w 2 (-1))) (by
        refine zat_in zP_X6_cold zk_X6_cold_73 ?_; simp (disch := omega) only [b_X6_cold_73, zif, zdr, zkb, mK_wi, mN_wi, mJ_wi, mI_wi, sI_wi, beq_self_eq_true, Bool.true_or, Bool.or_true, Bool.or_false, Bool.and_self, Bool.and_true, Bool.true_and, ↓reduceIte, w0]
        refine ev_ci (sp_X6_granted hB w0) ?_
        simp only [zif, zdr, zkb, mK_wi, mN_wi, mJ_wi, mI_wi, sI_wi, beq_self_eq_true, Bool.true_or, Bool.or_true, Bool.or_false, Bool.and_self, Bool.and_true, Bool.true_and, ↓reduceIte, n1]
        exact ev_r)
      exact this
    · have hm : mW (zcd (zup I w 0 0) (w + 3) na (nb + 1) (gV G 0 2) c) w (vCold (gV G) na (nb + 1) c) (gT G) := ⟨wP_cold hb.2.2.1.1 (fun x j _ _ => rfl), fun k hk => by
        rw [vCold_i (by omega)] at hk
        exact (hb.2.2.1.2 k hk).fr (fun a i h1 h2 => zcd_k (by omega))⟩
      refine h.nw hi (mW.fr' hm (by rw [vCold_i (by omega)]; exact hi.1.1.2.1) (fun a j h1 h2 h3 => by rw [zup_k (by omega), zup_k (by omega)])) (by simp (disch := omega) only [zfl_k, zfl_q, zup_k, zup_q]) (by simp (disch := omega) only [zfl_k, zfl_q, zup_k, zup_q]) (fun a k h1 h2 h3 h4 h5 => ?_)
      rw [zup_k (by omega), zup_k (by omega), zcd_k (by omega), zup_k (by omega)]
    · rw [zup_k (by omega), zup_k (by omega), zcd_k (by omega), zup_k (by omega)]
end
