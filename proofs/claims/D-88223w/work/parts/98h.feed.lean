/-! ===== feed ===== -/
set_option maxRecDepth 100000
def shf (r : Nat) : Int32 := match r with
  | 0 => 24
  | 1 => 16
  | 2 => 8
  | 3 => 0
  | _ => -8
def bt (v s : Int32) : Int32 := Int8.toInt32 (Int32.toInt8 (Int8.toInt32 (Int32.toInt8 (v >>> (s &&& 31)))))
def fv (a b c d e : Int32) (k : Nat) : Int32 := if k < 4 then a else if k < 8 then b else if k < 12 then c else if k < 16 then d else e
def byt (a b c d e : Int32) (k : Nat) : Int32 := bt (fv a b c d e k) (shf (k % 4))
def uFeed (U : zT) (a b c d e : Int32) : zT := fun i j => if i = 0 ∧ j = 0 then Int32.ofNat (nn (U 0 0) + 20) else if i = 1 ∧ nn (U 0 0) ≤ j ∧ j < nn (U 0 0) + 20 then byt a b c d e (j - nn (U 0 0)) else U i j
def oFeed (G : zGl) (a b c d e : Int32) : Int32 × zGl := if nn (gU G 0 0) + 20 ≤ 400 then (Int32.ofNat (nn (gU G 0 0) + 20), sU G (uFeed (gU G) a b c d e)) else (-1, G)
theorem shf_s : ∀ r, r < 4 → shf r + (-8) = shf (r + 1) := by decide +kernel
theorem shf_n : ∀ r, r < 4 → ¬ (shf r < 0) := by decide +kernel
theorem shf_m : ∀ k, k < 20 → (24 - (8 * (Int32.ofNat k - Int32.ofNat k / 4 * 4)) : Int32) = shf (k % 4) := by decide +kernel
section
variable {E : zE} {dd B w n tp : Nat} {S : zM} {I : Nat → Nat → Int32} {G : zGl}
theorem iFeed (hi : IG G) (a b c d e : Int32) : IG (oFeed G a b c d e).2 := by
  unfold oFeed
  split
  · next h => exact ⟨hi.1, hi.2.1, hi.2.2.1, hi.2.2.2.1, by
      show sm (uFeed (gU G) a b c d e 0 0) 400
      rw [show uFeed (gU G) a b c d e 0 0 = Int32.ofNat (nn (gU G 0 0) + 20) from if_pos ⟨rfl, rfl⟩]
      exact sm_of h (by omega)⟩
  · exact hi
theorem lp_X0_word {v : Int32} (hB : E.1 ≤ B) (b0 : mK S B = 1) (ba0 : mJ S B 0 = some (B + 1)) (bka0 : mK S (B + 1) = 102) (bna0 : mN S (B + 1) = 400) (hn : n + 4 ≤ 400) : ∀ c r : Nat, r + c = 4 → ∀ I : Nat → Nat → Int32, I B 1 = Int32.ofNat (n + r) → ∃ I', zAt E dd 36 3 [some (zr (some B)), some (zi v), some (zi (shf r))] [] (zwi S I) (Sum.inl none, zwi S I') ∧ (∀ j, r ≤ j → j < 4 → I' (B + 1) (n + j) = bt v (shf j)) ∧ I' B 1 = Int32.ofNat (n + 4) ∧ ∀ a i, ¬ (a = B ∧ i = 1) → ¬ (a = B + 1 ∧ n + r ≤ i ∧ i < n + 4) → I' a i = I a i := by
  intro c
  induction c with
  | zero =>
    intro r hr I e1
    obtain rfl : r = 4 := hr
    have hl : (shf 4 < (0 : Int32)) = True := eq_true (by decide)
    refine ⟨I, ?_, fun j h1 h2 => by omega, e1, fun _ _ _ _ => rfl⟩
    refine zat_in zP_X0_word zk_X0_word_3 ?_
    simp (disch := omega) only [b_X0_word_3, zif, zdr, zkb, mK_wi, mN_wi, mJ_wi, mI_wi, sI_wi, beq_self_eq_true, Bool.true_or, Bool.or_true, Bool.or_false, Bool.and_self, Bool.and_true, Bool.true_and, ↓reduceIte, ble_up0, i_cl, i_succ, zix_of, zfl_k, zup_k, zup_q, hl]
    refine ev_bk ?_
    refine zat_in zP_X0_word zk_X0_word_36 ?_; simp (disch := omega) only [b_X0_word_36, zif, zdr, zkb, mK_wi, mN_wi, mJ_wi, mI_wi, sI_wi, beq_self_eq_true, Bool.true_or, Bool.or_true, Bool.or_false, Bool.and_self, Bool.and_true, Bool.true_and, ↓reduceIte]
    exact ev_r
  | succ c ih =>
    intro r hr I e1
    have hl : (shf r < (0 : Int32)) = False := eq_false (shf_n r (by omega))
    obtain ⟨I1, a1, p1, q1, f1⟩ := ih (r + 1) (by omega) (zup (zup I (B + 1) (n + r) (bt v (shf r))) B 1 (Int32.ofNat (n + (r + 1)))) (zup_q _ _ _ _)
    refine ⟨I1, ?_, fun j h1 h2 => ?_, q1, fun a i h1 h2 => ?_⟩
    · have e3 : ∀ (x : Int32), Int8.toInt32 (Int32.toInt8 (Int8.toInt32 (Int32.toInt8 (x >>> (shf r &&& 31))))) = bt x (shf r) := fun _ => rfl
      refine zat_in zP_X0_word zk_X0_word_3 ?_
      simp (disch := omega) only [b_X0_word_3, zif, zdr, zkb, mK_wi, mN_wi, mJ_wi, mI_wi, sI_wi, beq_self_eq_true, Bool.true_or, Bool.or_true, Bool.or_false, Bool.and_self, Bool.and_true, Bool.true_and, ↓reduceIte, ble_up0, i_cl, i_succ, zix_of, zfl_k, zup_k, zup_q, hl, b0, ba0, bka0, bna0, e1, e3]
      refine ev_tl zP_X0_word zk_X0_word_20 ?_
      refine zat_in zP_X0_word zk_X0_word_20 ?_; simp (disch := omega) only [b_X0_word_20, zif, zdr, zkb, mK_wi, mN_wi, mJ_wi, mI_wi, sI_wi, beq_self_eq_true, Bool.true_or, Bool.or_true, Bool.or_false, Bool.and_self, Bool.and_true, Bool.true_and, ↓reduceIte, ble_up0, i_cl, i_succ, zix_of, zfl_k, zup_k, zup_q, b0, e1, shf_s r (show r < 4 by omega)]
      exact ev_bk a1
    · by_cases q : j = r
      · subst q
        rw [f1 _ _ (by omega) (by omega), zup_k (by omega), zup_q]
      · exact p1 j (by omega) h2
    · rw [f1 a i h1 (by omega), zup_k h1, zup_k (by omega)]
theorem sp_X0_word {v : Int32} (hB : E.1 ≤ B) (b0 : mK S B = 1) (ba0 : mJ S B 0 = some (B + 1)) (bka0 : mK S (B + 1) = 102) (bna0 : mN S (B + 1) = 400) (hn : n + 4 ≤ 400) (e1 : I B 1 = Int32.ofNat n) : ∃ I', zCl E dd 36 [zr (some B), zi v] (zwi S I) (Sum.inl none, zwi S I') ∧ (∀ j, j < 4 → I' (B + 1) (n + j) = bt v (shf j)) ∧ I' B 1 = Int32.ofNat (n + 4) ∧ ∀ a i, ¬ (a = B ∧ i = 1) → ¬ (a = B + 1 ∧ n ≤ i ∧ i < n + 4) → I' a i = I a i := by
  obtain ⟨I1, a1, p1, q1, f1⟩ := lp_X0_word (E := E) (dd := dd) (v := v) hB b0 ba0 bka0 bna0 hn 4 0 (by omega) I e1
  refine ⟨I1, ?_, fun j h => p1 j (by omega) h, q1, f1⟩
  refine zcl_in' zP_X0_word ?_; rw [zn_2_3]
  refine zat_in zP_X0_word zk_X0_word_0 ?_
  simp only [b_X0_word_0]
  exact ev_tl zP_X0_word zk_X0_word_3 a1
theorem xSc_feed (hi : IG G) {J : Nat → Nat → Int32} {a b c d e : Int32} (h : xSc I B G) (h1 : J B 1 = Int32.ofNat (nn (gU G 0 0) + 20)) (h2 : ∀ k, k < 20 → J (B + 1) (nn (gU G 0 0) + k) = byt a b c d e k) (hf : ∀ x i, ¬ (x = B ∧ i = 1) → ¬ (x = B + 1 ∧ nn (gU G 0 0) ≤ i ∧ i < nn (gU G 0 0) + 20) → J x i = I x i) : xSc J B (sU G (uFeed (gU G) a b c d e)) := by
  obtain ⟨⟨s1, s2, s3, s4⟩, s5, s6, s7, s8⟩ := h
  have u0 : ∀ j, j ≠ 0 → uFeed (gU G) a b c d e 0 j = gU G 0 j := fun j hj => by simp [uFeed, hj]
  have u00 : uFeed (gU G) a b c d e 0 0 = Int32.ofNat (nn (gU G 0 0) + 20) := if_pos ⟨rfl, rfl⟩
  refine ⟨⟨h1.trans u00.symm, ?_, ?_, ?_⟩, (hf _ _ (by omega) (by omega)).trans s5, (hf _ _ (by omega) (by omega)).trans s6, (hf _ _ (by omega) (by omega)).trans s7, fun j hj => ?_⟩
  · exact (hf _ _ (by omega) (by omega)).trans (s2.trans (u0 1 (by omega)).symm)
  · exact (hf _ _ (by omega) (by omega)).trans (s3.trans (u0 2 (by omega)).symm)
  · exact (hf _ _ (by omega) (by omega)).trans (s4.trans (u0 3 (by omega)).symm)
  · show J (B + 1) j = uFeed (gU G) a b c d e 1 j
    unfold uFeed
    rw [if_neg (by omega)]
    by_cases q : nn (gU G 0 0) ≤ j ∧ j < nn (gU G 0 0) + 20
    · rw [if_pos ⟨rfl, q⟩, ← h2 _ (by omega), Nat.add_sub_cancel' q.1]
    · rw [if_neg (fun z => q z.2), hf _ _ (by omega) (by omega)]
      exact s8 j hj
theorem sp_X0_feed (hB : E.1 ≤ B) (h : XG S I B G) (hi : IG G) (a b c d e : Int32) : ∃ I', zCl E (dd + 1) 35 [zr (some B), zi a, zi b, zi c, zi d, zi e] (zwi S I) (Sum.inl (some (zi (oFeed G a b c d e).1)), zwi S I') ∧ XG S I' B (oFeed G a b c d e).2 ∧ zfI B (B + 318) I I' := by
  have hcs := h.1
  obtain ⟨b0, ⟨b3, b4, b5⟩, hwn, hwk, hal, ⟨b7, bk7, bn7⟩, ⟨b8, bk8, bn8⟩, ⟨b9, bk9, bn9⟩, ⟨b12, bk12⟩, ⟨ba0, bka0, bna0⟩, b2, bk2, ⟨br0, brk0⟩, br1, br2, brk2, brn2⟩ := id hcs
  have ht := hi.2.2.2.2
  have e1 := h.2.1.1.1.trans ht.1
  have hle := ht.2
  have e20 : Int32.ofNat (nn (gU G 0 0)) + 20 = Int32.ofNat (nn (gU G 0 0) + 20) := i_add (b := 20)
  unfold oFeed
  by_cases c1 : nn (gU G 0 0) + 20 ≤ 400
  · rw [if_pos c1]
    have c2 : (Int32.ofNat (nn (gU G 0 0) + 20) ≤ (400 : Int32)) = True := by
      rw [show (400 : Int32) = Int32.ofNat 400 from rfl, i_le (by omega) (by omega)]
      exact eq_true c1
    obtain ⟨I1, a1, p1, q1, f1⟩ := sp_X0_word (E := E) (dd := dd) (v := a) (I := I) hB b0 ba0 bka0 bna0 (by omega) e1
    obtain ⟨I2, a2, p2, q2, f2⟩ := sp_X0_word (E := E) (dd := dd) (v := b) (I := I1) hB b0 ba0 bka0 bna0 (by omega) q1
    obtain ⟨I3, a3, p3, q3, f3⟩ := sp_X0_word (E := E) (dd := dd) (v := c) (I := I2) hB b0 ba0 bka0 bna0 (by omega) q2
    obtain ⟨I4, a4, p4, q4, f4⟩ := sp_X0_word (E := E) (dd := dd) (v := d) (I := I3) hB b0 ba0 bka0 bna0 (by omega) q3
    obtain ⟨I5, a5, p5, q5, f5⟩ := sp_X0_word (E := E) (dd := dd) (v := e) (I := I4) hB b0 ba0 bka0 bna0 (by omega) q4
    have hf : ∀ x i, ¬ (x = B ∧ i = 1) → ¬ (x = B + 1 ∧ nn (gU G 0 0) ≤ i ∧ i < nn (gU G 0 0) + 20) → I5 x i = I x i := fun x i h1 h2 => by
      rw [f5 x i h1 (by omega), f4 x i h1 (by omega), f3 x i h1 (by omega), f2 x i h1 (by omega), f1 x i h1 (by omega)]
    refine ⟨I5, ?_, ⟨h.1, ?_, h.2.2.1.fr hi.1.1.2.1 hi.1.ok (fun x k h1 h2 => hf x k (by omega) (by omega)), h.2.2.2.1.fr hi.2.1.1.2.1 hi.2.1.ok (fun x k h1 h2 => hf x k (by omega) (by omega)), h.2.2.2.2.1.fr (fun x k h => hf x k (by omega) (by omega)), h.2.2.2.2.2.fr (fun x k h => hf x k (by omega) (by omega))⟩, fun x k q => hf x k (by omega) (by omega)⟩
    · refine zcl_in' zP_X0_feed ?_; rw [zn_6_6]
      (first | refine zat_in zP_X0_feed zk_X0_feed_0 ?_ | refine zat_in zP_X0_feed zk_X0_feed_15 ?_) <;> simp (disch := omega) only [b_X0_feed_0, b_X0_feed_15, zc_X0_feed_15, zif, zdr, zkb, mK_wi, mN_wi, mJ_wi, mI_wi, sI_wi, beq_self_eq_true, Bool.true_or, Bool.or_true, Bool.or_false, Bool.and_self, Bool.and_true, Bool.true_and, ↓reduceIte, ble_up0, i_cl, i_succ, zix_of, zfl_k, zup_k, zup_q, b0, b3, b4, b5, b7, bk7, bn7, b8, bk8, bn8, b9, bk9, bn9, b12, bk12, ba0, bka0, bna0, b2, bk2, br0, brk0, br1, br2, brk2, brn2, e1, e20, c2, q5]; repeat (first | exact ev_r | (refine ev_bk ?_; ((first | refine zat_in zP_X0_feed zk_X0_feed_0 ?_ | refine zat_in zP_X0_feed zk_X0_feed_15 ?_) <;> simp (disch := omega) only [b_X0_feed_0, b_X0_feed_15, zc_X0_feed_15, zif, zdr, zkb, mK_wi, mN_wi, mJ_wi, mI_wi, sI_wi, beq_self_eq_true, Bool.true_or, Bool.or_true, Bool.or_false, Bool.and_self, Bool.and_true, Bool.true_and, ↓reduceIte, ble_up0, i_cl, i_succ, zix_of, zfl_k, zup_k, zup_q, b0, b3, b4, b5, b7, bk7, bn7, b8, bk8, bn8, b9, bk9, bn9, b12, bk12, ba0, bka0, bna0, b2, bk2, br0, brk0, br1, br2, brk2, brn2, e1, e20, c2, q5])) | (refine ev_cv (a1) ?_; try simp (disch := omega) only [b_X0_feed_0, b_X0_feed_15, zc_X0_feed_15, zif, zdr, zkb, mK_wi, mN_wi, mJ_wi, mI_wi, sI_wi, beq_self_eq_true, Bool.true_or, Bool.or_true, Bool.or_false, Bool.and_self, Bool.and_true, Bool.true_and, ↓reduceIte, ble_up0, i_cl, i_succ, zix_of, zfl_k, zup_k, zup_q, b0, b3, b4, b5, b7, bk7, bn7, b8, bk8, bn8, b9, bk9, bn9, b12, bk12, ba0, bka0, bna0, b2, bk2, br0, brk0, br1, br2, brk2, brn2, e1, e20, c2, q5]) | (refine ev_ci (a1) ?_; try simp (disch := omega) only [b_X0_feed_0, b_X0_feed_15, zc_X0_feed_15, zif, zdr, zkb, mK_wi, mN_wi, mJ_wi, mI_wi, sI_wi, beq_self_eq_true, Bool.true_or, Bool.or_true, Bool.or_false, Bool.and_self, Bool.and_true, Bool.true_and, ↓reduceIte, ble_up0, i_cl, i_succ, zix_of, zfl_k, zup_k, zup_q, b0, b3, b4, b5, b7, bk7, bn7, b8, bk8, bn8, b9, bk9, bn9, b12, bk12, ba0, bka0, bna0, b2, bk2, br0, brk0, br1, br2, brk2, brn2, e1, e20, c2, q5]) | (refine ev_cr (a1) ?_; try simp (disch := omega) only [b_X0_feed_0, b_X0_feed_15, zc_X0_feed_15, zif, zdr, zkb, mK_wi, mN_wi, mJ_wi, mI_wi, sI_wi, beq_self_eq_true, Bool.true_or, Bool.or_true, Bool.or_false, Bool.and_self, Bool.and_true, Bool.true_and, ↓reduceIte, ble_up0, i_cl, i_succ, zix_of, zfl_k, zup_k, zup_q, b0, b3, b4, b5, b7, bk7, bn7, b8, bk8, bn8, b9, bk9, bn9, b12, bk12, ba0, bka0, bna0, b2, bk2, br0, brk0, br1, br2, brk2, brn2, e1, e20, c2, q5]) | (refine ev_cg (a1) ?_; try simp (disch := omega) only [b_X0_feed_0, b_X0_feed_15, zc_X0_feed_15, zif, zdr, zkb, mK_wi, mN_wi, mJ_wi, mI_wi, sI_wi, beq_self_eq_true, Bool.true_or, Bool.or_true, Bool.or_false, Bool.and_self, Bool.and_true, Bool.true_and, ↓reduceIte, ble_up0, i_cl, i_succ, zix_of, zfl_k, zup_k, zup_q, b0, b3, b4, b5, b7, bk7, bn7, b8, bk8, bn8, b9, bk9, bn9, b12, bk12, ba0, bka0, bna0, b2, bk2, br0, brk0, br1, br2, brk2, brn2, e1, e20, c2, q5]) | (refine ev_cv (a2) ?_; try simp (disch := omega) only [b_X0_feed_0, b_X0_feed_15, zc_X0_feed_15, zif, zdr, zkb, mK_wi, mN_wi, mJ_wi, mI_wi, sI_wi, beq_self_eq_true, Bool.true_or, Bool.or_true, Bool.or_false, Bool.and_self, Bool.and_true, Bool.true_and, ↓reduceIte, ble_up0, i_cl, i_succ, zix_of, zfl_k, zup_k, zup_q, b0, b3, b4, b5, b7, bk7, bn7, b8, bk8, bn8, b9, bk9, bn9, b12, bk12, ba0, bka0, bna0, b2, bk2, br0, brk0, br1, br2, brk2, brn2, e1, e20, c2, q5]) | (refine ev_ci (a2) ?_; try simp (disch := omega) only [b_X0_feed_0, b_X0_feed_15, zc_X0_feed_15, zif, zdr, zkb, mK_wi, mN_wi, mJ_wi, mI_wi, sI_wi, beq_self_eq_true, Bool.true_or, Bool.or_true, Bool.or_false, Bool.and_self, Bool.and_true, Bool.true_and, ↓reduceIte, ble_up0, i_cl, i_succ, zix_of, zfl_k, zup_k, zup_q, b0, b3, b4, b5, b7, bk7, bn7, b8, bk8, bn8, b9, bk9, bn9, b12, bk12, ba0, bka0, bna0, b2, bk2, br0, brk0, br1, br2, brk2, brn2, e1, e20, c2, q5]) | (refine ev_cr (a2) ?_; try simp (disch := omega) only [b_X0_feed_0, b_X0_feed_15, zc_X0_feed_15, zif, zdr, zkb, mK_wi, mN_wi, mJ_wi, mI_wi, sI_wi, beq_self_eq_true, Bool.true_or, Bool.or_true, Bool.or_false, Bool.and_self, Bool.and_true, Bool.true_and, ↓reduceIte, ble_up0, i_cl, i_succ, zix_of, zfl_k, zup_k, zup_q, b0, b3, b4, b5, b7, bk7, bn7, b8, bk8, bn8, b9, bk9, bn9, b12, bk12, ba0, bka0, bna0, b2, bk2, br0, brk0, br1, br2, brk2, brn2, e1, e20, c2, q5]) | (refine ev_cg (a2) ?_; try simp (disch := omega) only [b_X0_feed_0, b_X0_feed_15, zc_X0_feed_15, zif, zdr, zkb, mK_wi, mN_wi, mJ_wi, mI_wi, sI_wi, beq_self_eq_true, Bool.true_or, Bool.or_true, Bool.or_false, Bool.and_self, Bool.and_true, Bool.true_and, ↓reduceIte, ble_up0, i_cl, i_succ, zix_of, zfl_k, zup_k, zup_q, b0, b3, b4, b5, b7, bk7, bn7, b8, bk8, bn8, b9, bk9, bn9, b12, bk12, ba0, bka0, bna0, b2, bk2, br0, brk0, br1, br2, brk2, brn2, e1, e20, c2, q5]) | (refine ev_cv (a3) ?_; try simp (disch := omega) only [b_X0_feed_0, b_X0_feed_15, zc_X0_feed_15, zif, zdr, zkb, mK_wi, mN_wi, mJ_wi, mI_wi, sI_wi, beq_self_eq_true, Bool.true_or, Bool.or_true, Bool.or_false, Bool.and_self, Bool.and_true, Bool.true_and, ↓reduceIte, ble_up0, i_cl, i_succ, zix_of, zfl_k, zup_k, zup_q, b0, b3, b4, b5, b7, bk7, bn7, b8, bk8, bn8, b9, bk9, bn9, b12, bk12, ba0, bka0, bna0, b2, bk2, br0, brk0, br1, br2, brk2, brn2, e1, e20, c2, q5]) | (refine ev_ci (a3) ?_; try simp (disch := omega) only [b_X0_feed_0, b_X0_feed_15, zc_X0_feed_15, zif, zdr, zkb, mK_wi, mN_wi, mJ_wi, mI_wi, sI_wi, beq_self_eq_true, Bool.true_or, Bool.or_true, Bool.or_false, Bool.and_self, Bool.and_true, Bool.true_and, ↓reduceIte, ble_up0, i_cl, i_succ, zix_of, zfl_k, zup_k, zup_q, b0, b3, b4, b5, b7, bk7, bn7, b8, bk8, bn8, b9, bk9, bn9, b12, bk12, ba0, bka0, bna0, b2, bk2, br0, brk0, br1, br2, brk2, brn2, e1, e20, c2, q5]) | (refine ev_cr (a3) ?_; try simp (disch := omega) only [b_X0_feed_0, b_X0_feed_15, zc_X0_feed_15, zif, zdr, zkb, mK_wi, mN_wi, mJ_wi, mI_wi, sI_wi, beq_self_eq_true, Bool.true_or, Bool.or_true, Bool.or_false, Bool.and_self, Bool.and_true, Bool.true_and, ↓reduceIte, ble_up0, i_cl, i_succ, zix_of, zfl_k, zup_k, zup_q, b0, b3, b4, b5, b7, bk7, bn7, b8, bk8, bn8, b9, bk9, bn9, b12, bk12, ba0, bka0, bna0, b2, bk2, br0, brk0, br1, br2, brk2, brn2, e1, e20, c2, q5]) | (refine ev_cg (a3) ?_; try simp (disch := omega) only [b_X0_feed_0, b_X0_feed_15, zc_X0_feed_15, zif, zdr, zkb, mK_wi, mN_wi, mJ_wi, mI_wi, sI_wi, beq_self_eq_true, Bool.true_or, Bool.or_true, Bool.or_false, Bool.and_self, Bool.and_true, Bool.true_and, ↓reduceIte, ble_up0, i_cl, i_succ, zix_of, zfl_k, zup_k, zup_q, b0, b3, b4, b5, b7, bk7, bn7, b8, bk8, bn8, b9, bk9, bn9, b12, bk12, ba0, bka0, bna0, b2, bk2, br0, brk0, br1, br2, brk2, brn2, e1, e20, c2, q5]) | (refine ev_cv (a4) ?_; try simp (disch := omega) only [b_X0_feed_0, b_X0_feed_15, zc_X0_feed_15, zif, zdr, zkb, mK_wi, mN_wi, mJ_wi, mI_wi, sI_wi, beq_self_eq_true, Bool.true_or, Bool.or_true, Bool.or_false, Bool.and_self, Bool.and_true, Bool.true_and, ↓reduceIte, ble_up0, i_cl, i_succ, zix_of, zfl_k, zup_k, zup_q, b0, b3, b4, b5, b7, bk7, bn7, b8, bk8, bn8, b9, bk9, bn9, b12, bk12, ba0, bka0, bna0, b2, bk2, br0, brk0, br1, br2, brk2, brn2, e1, e20, c2, q5]) | (refine ev_ci (a4) ?_; try simp (disch := omega) only [b_X0_feed_0, b_X0_feed_15, zc_X0_feed_15, zif, zdr, zkb, mK_wi, mN_wi, mJ_wi, mI_wi, sI_wi, beq_self_eq_true, Bool.true_or, Bool.or_true, Bool.or_false, Bool.and_self, Bool.and_true, Bool.true_and, ↓reduceIte, ble_up0, i_cl, i_succ, zix_of, zfl_k, zup_k, zup_q, b0, b3, b4, b5, b7, bk7, bn7, b8, bk8, bn8, b9, bk9, bn9, b12, bk12, ba0, bka0, bna0, b2, bk2, br0, brk0, br1, br2, brk2, brn2, e1, e20, c2, q5]) | (refine ev_cr (a4) ?_; try simp (disch := omega) only [b_X0_feed_0, b_X0_feed_15, zc_X0_feed_15, zif, zdr, zkb, mK_wi, mN_wi, mJ_wi, mI_wi, sI_wi, beq_self_eq_true, Bool.true_or, Bool.or_true, Bool.or_false, Bool.and_self, Bool.and_true, Bool.true_and, ↓reduceIte, ble_up0, i_cl, i_succ, zix_of, zfl_k, zup_k, zup_q, b0, b3, b4, b5, b7, bk7, bn7, b8, bk8, bn8, b9, bk9, bn9, b12, bk12, ba0, bka0, bna0, b2, bk2, br0, brk0, br1, br2, brk2, brn2, e1, e20, c2, q5]) | (refine ev_cg (a4) ?_; try simp (disch := omega) only [b_X0_feed_0, b_X0_feed_15, zc_X0_feed_15, zif, zdr, zkb, mK_wi, mN_wi, mJ_wi, mI_wi, sI_wi, beq_self_eq_true, Bool.true_or, Bool.or_true, Bool.or_false, Bool.and_self, Bool.and_true, Bool.true_and, ↓reduceIte, ble_up0, i_cl, i_succ, zix_of, zfl_k, zup_k, zup_q, b0, b3, b4, b5, b7, bk7, bn7, b8, bk8, bn8, b9, bk9, bn9, b12, bk12, ba0, bka0, bna0, b2, bk2, br0, brk0, br1, br2, brk2, brn2, e1, e20, c2, q5]) | (refine ev_cv (a5) ?_; try simp (disch := omega) only [b_X0_feed_0, b_X0_feed_15, zc_X0_feed_15, zif, zdr, zkb, mK_wi, mN_wi, mJ_wi, mI_wi, sI_wi, beq_self_eq_true, Bool.true_or, Bool.or_true, Bool.or_false, Bool.and_self, Bool.and_true, Bool.true_and, ↓reduceIte, ble_up0, i_cl, i_succ, zix_of, zfl_k, zup_k, zup_q, b0, b3, b4, b5, b7, bk7, bn7, b8, bk8, bn8, b9, bk9, bn9, b12, bk12, ba0, bka0, bna0, b2, bk2, br0, brk0, br1, br2, brk2, brn2, e1, e20, c2, q5]) | (refine ev_ci (a5) ?_; try simp (disch := omega) only [b_X0_feed_0, b_X0_feed_15, zc_X0_feed_15, zif, zdr, zkb, mK_wi, mN_wi, mJ_wi, mI_wi, sI_wi, beq_self_eq_true, Bool.true_or, Bool.or_true, Bool.or_false, Bool.and_self, Bool.and_true, Bool.true_and, ↓reduceIte, ble_up0, i_cl, i_succ, zix_of, zfl_k, zup_k, zup_q, b0, b3, b4, b5, b7, bk7, bn7, b8, bk8, bn8, b9, bk9, bn9, b12, bk12, ba0, bka0, bna0, b2, bk2, br0, brk0, br1, br2, brk2, brn2, e1, e20, c2, q5]) | (refine ev_cr (a5) ?_; try simp (disch := omega) only [b_X0_feed_0, b_X0_feed_15, zc_X0_feed_15, zif, zdr, zkb, mK_wi, mN_wi, mJ_wi, mI_wi, sI_wi, beq_self_eq_true, Bool.true_or, Bool.or_true, Bool.or_false, Bool.and_self, Bool.and_true, Bool.true_and, ↓reduceIte, ble_up0, i_cl, i_succ, zix_of, zfl_k, zup_k, zup_q, b0, b3, b4, b5, b7, bk7, bn7, b8, bk8, bn8, b9, bk9, bn9, b12, bk12, ba0, bka0, bna0, b2, bk2, br0, brk0, br1, br2, brk2, brn2, e1, e20, c2, q5]) | (refine ev_cg (a5) ?_; try simp (disch := omega) only [b_X0_feed_0, b_X0_feed_15, zc_X0_feed_15, zif, zdr, zkb, mK_wi, mN_wi, mJ_wi, mI_wi, sI_wi, beq_self_eq_true, Bool.true_or, Bool.or_true, Bool.or_false, Bool.and_self, Bool.and_true, Bool.true_and, ↓reduceIte, ble_up0, i_cl, i_succ, zix_of, zfl_k, zup_k, zup_q, b0, b3, b4, b5, b7, bk7, bn7, b8, bk8, bn8, b9, bk9, bn9, b12, bk12, ba0, bka0, bna0, b2, bk2, br0, brk0, br1, br2, brk2, brn2, e1, e20, c2, q5]))
    · refine xSc_feed hi h.2.1 q5 (fun k hk => ?_) hf
      unfold byt fv
      by_cases k1 : k < 4
      · rw [if_pos k1, f5 _ _ (by omega) (by omega), f4 _ _ (by omega) (by omega), f3 _ _ (by omega) (by omega), f2 _ _ (by omega) (by omega), show k % 4 = k by omega]
        exact p1 k k1
      · rw [if_neg k1]
        by_cases k2 : k < 8
        · rw [if_pos k2, f5 _ _ (by omega) (by omega), f4 _ _ (by omega) (by omega), f3 _ _ (by omega) (by omega), show k % 4 = k - 4 by omega, show nn (gU G 0 0) + k = nn (gU G 0 0) + 4 + (k - 4) by omega]
          exact p2 _ (by omega)
        · rw [if_neg k2]
          by_cases k3 : k < 12
          · rw [if_pos k3, f5 _ _ (by omega) (by omega), f4 _ _ (by omega) (by omega), show k % 4 = k - 8 by omega, show nn (gU G 0 0) + k = nn (gU G 0 0) + 4 + 4 + (k - 8) by omega]
            exact p3 _ (by omega)
          · rw [if_neg k3]
            by_cases k4 : k < 16
            · rw [if_pos k4, f5 _ _ (by omega) (by omega), show k % 4 = k - 12 by omega, show nn (gU G 0 0) + k = nn (gU G 0 0) + 4 + 4 + 4 + (k - 12) by omega]
              exact p4 _ (by omega)
            · rw [if_neg k4, show k % 4 = k - 16 by omega, show nn (gU G 0 0) + k = nn (gU G 0 0) + 4 + 4 + 4 + 4 + (k - 16) by omega]
              exact p5 _ (by omega)
  · rw [if_neg c1]
    have c2 : (Int32.ofNat (nn (gU G 0 0) + 20) ≤ (400 : Int32)) = False := by
      rw [show (400 : Int32) = Int32.ofNat 400 from rfl, i_le (by omega) (by omega)]
      exact eq_false c1
    refine ⟨I, ?_, h, zfI.rf⟩
    refine zcl_in' zP_X0_feed ?_; rw [zn_6_6]
    (first | refine zat_in zP_X0_feed zk_X0_feed_0 ?_ | refine zat_in zP_X0_feed zk_X0_feed_15 ?_) <;> simp (disch := omega) only [b_X0_feed_0, b_X0_feed_15, zc_X0_feed_15, zif, zdr, zkb, mK_wi, mN_wi, mJ_wi, mI_wi, sI_wi, beq_self_eq_true, Bool.true_or, Bool.or_true, Bool.or_false, Bool.and_self, Bool.and_true, Bool.true_and, ↓reduceIte, ble_up0, i_cl, i_succ, zix_of, zfl_k, zup_k, zup_q, b0, b3, b4, b5, b7, bk7, bn7, b8, bk8, bn8, b9, bk9, bn9, b12, bk12, ba0, bka0, bna0, b2, bk2, br0, brk0, br1, br2, brk2, brn2, e1, e20, c2]; repeat (first | exact ev_r | (refine ev_bk ?_; ((first | refine zat_in zP_X0_feed zk_X0_feed_0 ?_ | refine zat_in zP_X0_feed zk_X0_feed_15 ?_) <;> simp (disch := omega) only [b_X0_feed_0, b_X0_feed_15, zc_X0_feed_15, zif, zdr, zkb, mK_wi, mN_wi, mJ_wi, mI_wi, sI_wi, beq_self_eq_true, Bool.true_or, Bool.or_true, Bool.or_false, Bool.and_self, Bool.and_true, Bool.true_and, ↓reduceIte, ble_up0, i_cl, i_succ, zix_of, zfl_k, zup_k, zup_q, b0, b3, b4, b5, b7, bk7, bn7, b8, bk8, bn8, b9, bk9, bn9, b12, bk12, ba0, bka0, bna0, b2, bk2, br0, brk0, br1, br2, brk2, brn2, e1, e20, c2])))
end
