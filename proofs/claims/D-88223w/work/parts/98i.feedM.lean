/-! ===== feed (model) ===== -/
set_option maxRecDepth 100000
section
variable {E : zE} {dd B w tp : Nat} {S : zM} {I : Nat → Nat → Int32} {G : zGl}
theorem lp_X6_feed {a b c d e : Int32} (hB : E.1 ≤ w) (w0 : mK S w = 7) (m22 : mJ S w 22 = some (w + 20)) (mk22 : mK S (w + 20) = 102) (mn22 : mN S (w + 20) = 400) (hn : tp + 20 ≤ 400) : ∀ m k : Nat, k + m = 20 → ∀ (I : Nat → Nat → Int32) (u : Option zV), I w 23 = Int32.ofNat (tp + k) → ∃ I', zAt E dd 124 23 [some (zr (some w)), some (zi a), some (zi b), some (zi c), some (zi d), some (zi e), some (zi (Int32.ofNat k)), u] [] (zwi S I) (Sum.inl (some (zi (Int32.ofNat (tp + 20)))), zwi S I') ∧ (∀ j, k ≤ j → j < 20 → I' (w + 20) (tp + j) = byt a b c d e j) ∧ I' w 23 = Int32.ofNat (tp + 20) ∧ ∀ x i, ¬ (x = w ∧ i = 23) → ¬ (x = w + 20 ∧ tp + k ≤ i ∧ i < tp + 20) → I' x i = I x i := by
  intro m
  induction m with
  | zero =>
    intro k hk I u e1
    obtain rfl : k = 20 := hk
    have hl : ((20 : Int32) ≤ Int32.ofNat 20) = True := eq_true (by decide)
    refine ⟨I, ?_, fun j h1 h2 => by omega, e1, fun _ _ _ _ => rfl⟩
    refine zat_in zP_X6_feed zk_X6_feed_23 ?_
    simp (disch := omega) only [b_X6_feed_23, zif, zdr, zkb, mK_wi, mN_wi, mJ_wi, mI_wi, sI_wi, beq_self_eq_true, Bool.true_or, Bool.or_true, Bool.or_false, Bool.and_self, Bool.and_true, Bool.true_and, ↓reduceIte, ble_up0, i_cl, i_succ, zix_of, zfl_k, zup_k, zup_q, hl]
    refine ev_bk ?_
    refine zat_in zP_X6_feed zk_X6_feed_117 ?_; simp (disch := omega) only [b_X6_feed_117, zif, zdr, zkb, mK_wi, mN_wi, mJ_wi, mI_wi, sI_wi, beq_self_eq_true, Bool.true_or, Bool.or_true, Bool.or_false, Bool.and_self, Bool.and_true, Bool.true_and, ↓reduceIte, w0, e1]
    exact ev_r
  | succ m ih =>
    intro k hk I u e1
    have lt : ∀ n : Nat, n < 100 → ((Int32.ofNat n ≤ Int32.ofNat k) = (n ≤ k)) := fun n h => i_le (by omega) (by omega)
    have hl : ((20 : Int32) ≤ Int32.ofNat k) = False := (lt 20 (by omega)).trans (eq_false (by omega))
    obtain ⟨I1, a1, p1, q1, f1⟩ := ih (k + 1) (by omega) (zup (zup I (w + 20) (tp + k) (byt a b c d e k)) w 23 (Int32.ofNat (tp + (k + 1)))) (some (zi (fv a b c d e k))) (zup_q _ _ _ _)
    have e3 : ∀ (x : Int32), Int8.toInt32 (Int32.toInt8 (Int8.toInt32 (Int32.toInt8 (x >>> ((24 - (8 * (Int32.ofNat k - Int32.ofNat k / 4 * 4))) &&& 31))))) = bt x (shf (k % 4)) := fun x => by rw [shf_m k (by omega)]; rfl
    have n4 : ((4 : Int32) != 0) = true := by decide
    have fin : ∀ r, zAt E dd 124 23 [some (zr (some w)), some (zi a), some (zi b), some (zi c), some (zi d), some (zi e), some (zi (Int32.ofNat (k + 1))), some (zi (fv a b c d e k))] [] (zwi S (zup (zup I (w + 20) (tp + k) (byt a b c d e k)) w 23 (Int32.ofNat (tp + (k + 1))))) r → zAt E dd 124 76 [some (zr (some w)), some (zi a), some (zi b), some (zi c), some (zi d), some (zi e), some (zi (Int32.ofNat k)), u] [zi (fv a b c d e k)] (zwi S I) r := by
      intro r hr
      refine zat_in zP_X6_feed zk_X6_feed_76 ?_
      simp (disch := omega) only [b_X6_feed_76, zif, zdr, zkb, mK_wi, mN_wi, mJ_wi, mI_wi, sI_wi, beq_self_eq_true, Bool.true_or, Bool.or_true, Bool.or_false, Bool.and_self, Bool.and_true, Bool.true_and, ↓reduceIte, ble_up0, i_cl, i_succ, zix_of, zfl_k, zup_k, zup_q, w0, m22, mk22, mn22, e1, e3, n4]
      refine ev_tl zP_X6_feed zk_X6_feed_101 ?_
      refine zat_in zP_X6_feed zk_X6_feed_101 ?_; simp (disch := omega) only [b_X6_feed_101, zif, zdr, zkb, mK_wi, mN_wi, mJ_wi, mI_wi, sI_wi, beq_self_eq_true, Bool.true_or, Bool.or_true, Bool.or_false, Bool.and_self, Bool.and_true, Bool.true_and, ↓reduceIte, ble_up0, i_cl, i_succ, zix_of, zfl_k, zup_k, zup_q, w0, e1]
      exact ev_bk hr
    refine ⟨I1, ?_, fun j h1 h2 => ?_, q1, fun x i h1 h2 => ?_⟩
    · by_cases k1 : k < 4
      · have l4 : ((4 : Int32) ≤ Int32.ofNat k) = False := (lt 4 (by omega)).trans (eq_false (by omega))
        have ef : fv a b c d e k = a := if_pos k1
        have := fin _ a1
        rw [ef] at this
        refine zat_in zP_X6_feed zk_X6_feed_23 ?_
        simp (disch := omega) only [b_X6_feed_23, zif, zdr, zkb, mK_wi, mN_wi, mJ_wi, mI_wi, sI_wi, beq_self_eq_true, Bool.true_or, Bool.or_true, Bool.or_false, Bool.and_self, Bool.and_true, Bool.true_and, ↓reduceIte, ble_up0, i_cl, i_succ, zix_of, zfl_k, zup_k, zup_q, hl, l4]
        exact ev_bk this
      · have l4 : ((4 : Int32) ≤ Int32.ofNat k) = True := (lt 4 (by omega)).trans (eq_true (by omega))
        refine zat_in zP_X6_feed zk_X6_feed_23 ?_
        simp (disch := omega) only [b_X6_feed_23, zif, zdr, zkb, mK_wi, mN_wi, mJ_wi, mI_wi, sI_wi, beq_self_eq_true, Bool.true_or, Bool.or_true, Bool.or_false, Bool.and_self, Bool.and_true, Bool.true_and, ↓reduceIte, ble_up0, i_cl, i_succ, zix_of, zfl_k, zup_k, zup_q, hl, l4]
        refine ev_bk ?_
        by_cases k2 : k < 8
        · have l8 : ((8 : Int32) ≤ Int32.ofNat k) = False := (lt 8 (by omega)).trans (eq_false (by omega))
          have ef : fv a b c d e k = b := by unfold fv; rw [if_neg k1, if_pos k2]
          have := fin _ a1
          rw [ef] at this
          refine zat_in zP_X6_feed zk_X6_feed_40 ?_
          simp (disch := omega) only [b_X6_feed_40, zif, zdr, zkb, mK_wi, mN_wi, mJ_wi, mI_wi, sI_wi, beq_self_eq_true, Bool.true_or, Bool.or_true, Bool.or_false, Bool.and_self, Bool.and_true, Bool.true_and, ↓reduceIte, ble_up0, i_cl, i_succ, zix_of, zfl_k, zup_k, zup_q, l8]
          exact ev_bk this
        · have l8 : ((8 : Int32) ≤ Int32.ofNat k) = True := (lt 8 (by omega)).trans (eq_true (by omega))
          refine zat_in zP_X6_feed zk_X6_feed_40 ?_
          simp (disch := omega) only [b_X6_feed_40, zif, zdr, zkb, mK_wi, mN_wi, mJ_wi, mI_wi, sI_wi, beq_self_eq_true, Bool.true_or, Bool.or_true, Bool.or_false, Bool.and_self, Bool.and_true, Bool.true_and, ↓reduceIte, ble_up0, i_cl, i_succ, zix_of, zfl_k, zup_k, zup_q, l8]
          refine ev_bk ?_
          by_cases k3 : k < 12
          · have l12 : ((12 : Int32) ≤ Int32.ofNat k) = False := (lt 12 (by omega)).trans (eq_false (by omega))
            have ef : fv a b c d e k = c := by unfold fv; rw [if_neg k1, if_neg k2, if_pos k3]
            have := fin _ a1
            rw [ef] at this
            refine zat_in zP_X6_feed zk_X6_feed_51 ?_
            simp (disch := omega) only [b_X6_feed_51, zif, zdr, zkb, mK_wi, mN_wi, mJ_wi, mI_wi, sI_wi, beq_self_eq_true, Bool.true_or, Bool.or_true, Bool.or_false, Bool.and_self, Bool.and_true, Bool.true_and, ↓reduceIte, ble_up0, i_cl, i_succ, zix_of, zfl_k, zup_k, zup_q, l12]
            exact ev_bk this
          · have l12 : ((12 : Int32) ≤ Int32.ofNat k) = True := (lt 12 (by omega)).trans (eq_true (by omega))
            refine zat_in zP_X6_feed zk_X6_feed_51 ?_
            simp (disch := omega) only [b_X6_feed_51, zif, zdr, zkb, mK_wi, mN_wi, mJ_wi, mI_wi, sI_wi, beq_self_eq_true, Bool.true_or, Bool.or_true, Bool.or_false, Bool.and_self, Bool.and_true, Bool.true_and, ↓reduceIte, ble_up0, i_cl, i_succ, zix_of, zfl_k, zup_k, zup_q, l12]
            refine ev_bk ?_
            by_cases k4 : k < 16
            · have l16 : ((16 : Int32) ≤ Int32.ofNat k) = False := (lt 16 (by omega)).trans (eq_false (by omega))
              have ef : fv a b c d e k = d := by unfold fv; rw [if_neg k1, if_neg k2, if_neg k3, if_pos k4]
              have := fin _ a1
              rw [ef] at this
              refine zat_in zP_X6_feed zk_X6_feed_62 ?_
              simp (disch := omega) only [b_X6_feed_62, zif, zdr, zkb, mK_wi, mN_wi, mJ_wi, mI_wi, sI_wi, beq_self_eq_true, Bool.true_or, Bool.or_true, Bool.or_false, Bool.and_self, Bool.and_true, Bool.true_and, ↓reduceIte, ble_up0, i_cl, i_succ, zix_of, zfl_k, zup_k, zup_q, l16]
              exact ev_bk this
            · have l16 : ((16 : Int32) ≤ Int32.ofNat k) = True := (lt 16 (by omega)).trans (eq_true (by omega))
              have ef : fv a b c d e k = e := by unfold fv; rw [if_neg k1, if_neg k2, if_neg k3, if_neg k4]
              have := fin _ a1
              rw [ef] at this
              refine zat_in zP_X6_feed zk_X6_feed_62 ?_
              simp (disch := omega) only [b_X6_feed_62, zif, zdr, zkb, mK_wi, mN_wi, mJ_wi, mI_wi, sI_wi, beq_self_eq_true, Bool.true_or, Bool.or_true, Bool.or_false, Bool.and_self, Bool.and_true, Bool.true_and, ↓reduceIte, ble_up0, i_cl, i_succ, zix_of, zfl_k, zup_k, zup_q, l16]
              refine ev_bk ?_
              refine zat_in zP_X6_feed zk_X6_feed_74 ?_
              simp only [b_X6_feed_74]
              refine ev_tl zP_X6_feed zk_X6_feed_76 ?_
              exact this
    · by_cases q : j = k
      · subst q
        rw [f1 _ _ (by omega) (by omega), zup_k (by omega), zup_q]
      · exact p1 j (by omega) h2
    · rw [f1 x i h1 (by omega), zup_k h1, zup_k (by omega)]
theorem mSc_feed (hi : IG G) {J : Nat → Nat → Int32} {a b c d e : Int32} (h : mSc I w G) (h1 : J w 23 = Int32.ofNat (nn (gU G 0 0) + 20)) (h2 : ∀ k, k < 20 → J (w + 20) (nn (gU G 0 0) + k) = byt a b c d e k) (hf : ∀ x i, ¬ (x = w ∧ (i = 23 ∨ i = 0)) → ¬ (x = w + 20 ∧ nn (gU G 0 0) ≤ i ∧ i < nn (gU G 0 0) + 20) → J x i = I x i) : mSc J w (sU G (uFeed (gU G) a b c d e)) := by
  obtain ⟨⟨s1, s2, s3, s4⟩, s6, s7, s8⟩ := h
  have u0 : ∀ j, j ≠ 0 → uFeed (gU G) a b c d e 0 j = gU G 0 j := fun j hj => by simp [uFeed, hj]
  have u00 : uFeed (gU G) a b c d e 0 0 = Int32.ofNat (nn (gU G 0 0) + 20) := if_pos ⟨rfl, rfl⟩
  refine ⟨⟨h1.trans u00.symm, ?_, ?_, ?_⟩, (hf _ _ (by omega) (by omega)).trans s6, (hf _ _ (by omega) (by omega)).trans s7, fun j hj => ?_⟩
  · exact (hf _ _ (by omega) (by omega)).trans (s2.trans (u0 1 (by omega)).symm)
  · exact (hf _ _ (by omega) (by omega)).trans (s3.trans (u0 2 (by omega)).symm)
  · exact (hf _ _ (by omega) (by omega)).trans (s4.trans (u0 3 (by omega)).symm)
  · show J (w + 20) j = uFeed (gU G) a b c d e 1 j
    unfold uFeed
    rw [if_neg (by omega)]
    by_cases q : nn (gU G 0 0) ≤ j ∧ j < nn (gU G 0 0) + 20
    · rw [if_pos ⟨rfl, q⟩, ← h2 _ (by omega), Nat.add_sub_cancel' q.1]
    · rw [if_neg (fun z => q z.2), hf _ _ (by omega) (by omega)]
      exact s8 j hj
theorem mp_feed (hB : E.1 ≤ w) (h : MG S I w G) (hi : IG G) (a b c d e : Int32) : ∃ I', zCl E dd 124 [zr (some w), zi a, zi b, zi c, zi d, zi e] (zwi S I) (Sum.inl (some (zi (oFeed G a b c d e).1)), zwi S I') ∧ MG S I' w (oFeed G a b c d e).2 ∧ zfI w (w + 148) I I' := by
  have hcs := h.1
  obtain ⟨hwn, hwk, hps, ⟨m20, hot⟩, ⟨m21, mk21⟩, ⟨m22, mk22, mn22⟩, m39, mk39, mn39⟩ := id hcs
  have w0 := hwn.1.1
  have ht := hi.2.2.2.2
  have e1 := h.2.1.1.1.trans ht.1
  have hle := ht.2
  have e20 : Int32.ofNat (nn (gU G 0 0)) + 20 = Int32.ofNat (nn (gU G 0 0) + 20) := i_add (b := 20)
  unfold oFeed
  by_cases c1 : nn (gU G 0 0) + 20 ≤ 400
  · rw [if_pos c1]
    have c2 : (Int32.ofNat (nn (gU G 0 0) + 20) ≤ (400 : Int32)) = True := by
      rw [show (400 : Int32) = Int32.ofNat 400 from rfl, i_le (by omega) (by omega)]
      exact eq_true c1
    obtain ⟨I1, a1, p1, q1, f1⟩ := lp_X6_feed (E := E) (dd := dd) (a := a) (b := b) (c := c) (d := d) (e := e) hB w0 m22 mk22 mn22 c1 20 0 (by omega) (zup I w 0 0) none ((zup_k (by omega)).trans e1)
    have hf : ∀ x i, ¬ (x = w ∧ (i = 23 ∨ i = 0)) → ¬ (x = w + 20 ∧ nn (gU G 0 0) ≤ i ∧ i < nn (gU G 0 0) + 20) → I1 x i = I x i := fun x i h1 h2 => by
      rw [f1 x i (by omega) (by omega), zup_k (by omega)]
    obtain ⟨h1, h2, h3, ⟨h4, h4'⟩, h5, h6⟩ := h
    refine ⟨I1, ?_, ⟨h1, mSc_feed hi h2 q1 (fun k hk => p1 k (by omega) hk) hf, h3.fr' hi.1.1.2.1 (fun x j h1 h2 h3 => hf x j (by omega) (by omega)), ⟨fun q => (h4 q).fr' hi.2.1.1.2.1 (fun x j h1 h2 h3 => hf x j (by omega) (by omega)), fun q => (hf _ _ (by omega) (by omega)).trans (h4' q)⟩, fun p hp => (h5 p hp).fr (fun x k h1 h2 => hf x k (by omega) (by omega)), fun i hi j hj => (hf _ _ (by omega) (by omega)).trans (h6 i hi j hj)⟩, fun x k q => hf x k (by omega) (by omega)⟩
    refine zcl_in' zP_X6_feed ?_; rw [zn_6_8]
    refine zat_in zP_X6_feed zk_X6_feed_0 ?_
    simp (disch := omega) only [b_X6_feed_0, zif, zdr, zkb, mK_wi, mN_wi, mJ_wi, mI_wi, sI_wi, beq_self_eq_true, Bool.true_or, Bool.or_true, Bool.or_false, Bool.and_self, Bool.and_true, Bool.true_and, ↓reduceIte, ble_up0, i_cl, i_succ, zix_of, zfl_k, zup_k, zup_q, w0, e1, e20, c2]
    refine ev_bk ?_
    refine zat_in zP_X6_feed zk_X6_feed_20 ?_
    simp only [b_X6_feed_20]
    refine ev_tl zP_X6_feed zk_X6_feed_23 ?_
    exact a1
  · rw [if_neg c1]
    have c2 : (Int32.ofNat (nn (gU G 0 0) + 20) ≤ (400 : Int32)) = False := by
      rw [show (400 : Int32) = Int32.ofNat 400 from rfl, i_le (by omega) (by omega)]
      exact eq_false c1
    refine ⟨?w2, ?a2, ?b2, ?c2⟩
    case a2 =>
      refine zcl_in' zP_X6_feed ?_; rw [zn_6_8]
      (first | refine zat_in zP_X6_feed zk_X6_feed_0 ?_ | refine zat_in zP_X6_feed zk_X6_feed_20 ?_ | refine zat_in zP_X6_feed zk_X6_feed_23 ?_ | refine zat_in zP_X6_feed zk_X6_feed_40 ?_ | refine zat_in zP_X6_feed zk_X6_feed_51 ?_ | refine zat_in zP_X6_feed zk_X6_feed_62 ?_ | refine zat_in zP_X6_feed zk_X6_feed_74 ?_ | refine zat_in zP_X6_feed zk_X6_feed_76 ?_ | refine zat_in zP_X6_feed zk_X6_feed_101 ?_ | refine zat_in zP_X6_feed zk_X6_feed_117 ?_) <;> simp (disch := omega) only [b_X6_feed_0, b_X6_feed_20, b_X6_feed_23, b_X6_feed_40, b_X6_feed_51, b_X6_feed_62, b_X6_feed_74, b_X6_feed_76, b_X6_feed_101, b_X6_feed_117, zc_X6_feed_20, zc_X6_feed_23, zc_X6_feed_40, zc_X6_feed_51, zc_X6_feed_62, zc_X6_feed_74, zc_X6_feed_76, zc_X6_feed_101, zc_X6_feed_117, zif, zdr, zkb, mK_wi, mN_wi, mJ_wi, mI_wi, sI_wi, beq_self_eq_true, Bool.true_or, Bool.or_true, Bool.or_false, Bool.and_self, Bool.and_true, Bool.true_and, ↓reduceIte, ble_up0, i_cl, i_succ, zix_of, zfl_k, zup_k, zup_q, w0, e1, e20, c2]; repeat (first | exact ev_r | (refine ev_bk ?_; ((first | refine zat_in zP_X6_feed zk_X6_feed_0 ?_ | refine zat_in zP_X6_feed zk_X6_feed_20 ?_ | refine zat_in zP_X6_feed zk_X6_feed_23 ?_ | refine zat_in zP_X6_feed zk_X6_feed_40 ?_ | refine zat_in zP_X6_feed zk_X6_feed_51 ?_ | refine zat_in zP_X6_feed zk_X6_feed_62 ?_ | refine zat_in zP_X6_feed zk_X6_feed_74 ?_ | refine zat_in zP_X6_feed zk_X6_feed_76 ?_ | refine zat_in zP_X6_feed zk_X6_feed_101 ?_ | refine zat_in zP_X6_feed zk_X6_feed_117 ?_) <;> simp (disch := omega) only [b_X6_feed_0, b_X6_feed_20, b_X6_feed_23, b_X6_feed_40, b_X6_feed_51, b_X6_feed_62, b_X6_feed_74, b_X6_feed_76, b_X6_feed_101, b_X6_feed_117, zc_X6_feed_20, zc_X6_feed_23, zc_X6_feed_40, zc_X6_feed_51, zc_X6_feed_62, zc_X6_feed_74, zc_X6_feed_76, zc_X6_feed_101, zc_X6_feed_117, zif, zdr, zkb, mK_wi, mN_wi, mJ_wi, mI_wi, sI_wi, beq_self_eq_true, Bool.true_or, Bool.or_true, Bool.or_false, Bool.and_self, Bool.and_true, Bool.true_and, ↓reduceIte, ble_up0, i_cl, i_succ, zix_of, zfl_k, zup_k, zup_q, w0, e1, e20, c2])))
    case b2 => exact h.q hi (fun a k h1 h2 h3 => by simp (disch := omega) only [zfl_k, zfl_q, zup_k, zup_q])
    case c2 => repeat (first | exact zfI.rf | refine zfI.put ?_ (by omega) (by omega))
end
