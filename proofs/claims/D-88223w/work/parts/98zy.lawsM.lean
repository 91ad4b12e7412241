/-! ===== laws (model) ===== -/
set_option maxRecDepth 100000
def mHf (w : Nat) (I I' : Nat → Nat → Int32) : Prop := ∀ a k, ¬ (a = w ∧ 25 ≤ k ∧ k ≤ 29) → a ≠ w + 19 → I' a k = I a k
theorem mHf_q {w : Nat} {I I' : Nat → Nat → Int32} (h : ∀ q, mQf w q I I') : mHf w I I' := fun a k h1 h2 => h (k + 1) a k h1 h2 (by omega) (by omega)
theorem mFr.h {w : Nat} {I I' : Nat → Nat → Int32} (h : mFr w I I') : mHf w I I' := fun a k h1 _ => h a k h1
theorem mHf.tr {w : Nat} {I I1 I2 : Nat → Nat → Int32} (h : mHf w I I1) (h' : mHf w I1 I2) : mHf w I I2 := fun a k h1 h2 => (h' a k h1 h2).trans (h a k h1 h2)
theorem mFr.tr {w : Nat} {I I1 I2 : Nat → Nat → Int32} (h : mFr w I I1) (h' : mFr w I1 I2) : mFr w I I2 := fun a k h1 => (h' a k h1).trans (h a k h1)
theorem mHf_th {w : Nat} {I : Nat → Nat → Int32} {f : Int32} {p : Nat} : mHf w I (zup (zup I (w + 19) 6 f) (w + 19) 7 (Int32.ofNat p)) := fun a k _ h2 => by rw [zup_k (by omega), zup_k (by omega)]
/-- what reading laws from row n on leaves as it was -/
def mLf (w n : Nat) (I I' : Nat → Nat → Int32) : Prop := ∀ a k, ¬ (a = w ∧ 25 ≤ k ∧ k ≤ 29) → a ≠ w + 19 → ¬ (a = w + 27 ∧ 4 * n ≤ k) → I' a k = I a k
theorem mHf.l {w n : Nat} {I I' : Nat → Nat → Int32} (h : mHf w I I') : mLf w n I I' := fun a k h1 h2 _ => h a k h1 h2
theorem mLf.tr {w n : Nat} {I I1 I2 : Nat → Nat → Int32} (h : mLf w n I I1) (h' : mLf w n I1 I2) : mLf w n I I2 := fun a k h1 h2 h3 => (h' a k h1 h2 h3).trans (h a k h1 h2 h3)
theorem mLf.up {w n m : Nat} {I I' : Nat → Nat → Int32} (h : mLf w m I I') (hn : n ≤ m) : mLf w n I I' := fun a k h1 h2 h3 => h a k h1 h2 (by omega)
section
variable {E : zE} {d w e : Nat} {S : zM} {g : Nat → Nat → Int64} {I : Nat → Nat → Int32} {X : zTx} {n : Int32} {u3 u4 u5 u6 : Option zV}
theorem sp_X6_law1 (hB : E.1 ≤ w) (hR : mRD E S g I w X e) (hh : ¬ (iw X e 5 = 0 ∧ iw X e 10 = 0 ∧ iw X e 18 = 0)) : (∀ f p, pLw X e = Sum.inl (f, p) → ∃ g' I', zAt E (d + 8) 142 56 [some (zr (some w)), some (zi n), some (zi 1), u3, u4, u5, u6] [] (zwi (zwg S g) I) (Sum.inr (w + 19), zwi (zwg S g') I') ∧ mTh I' w f p ∧ mHf w I I') ∧ (∀ t e', pLw X e = Sum.inr (t, e') → ∃ g' I', (∀ z, zAt E (d + 8) 142 194 [some (zr (some w)), some (zi n), some (zi 1), some (zi t.1), some (zi t.2.1), some (zi t.2.2.1), some (zi t.2.2.2)] [] (zwi (zwg S g') I') z → zAt E (d + 8) 142 56 [some (zr (some w)), some (zi n), some (zi 1), u3, u4, u5, u6] [] (zwi (zwg S g) I) z) ∧ mRD E S g' I' w X e' ∧ mFr w I I') := by
  have w0 := hR.1.1.1
  have k19 := hR.1.2.2
  have e56 := @b_X6_readLaws_56
  have e69 := @b_X6_readLaws_69
  have e82 := @b_X6_readLaws_82
  have e83 := @b_X6_readLaws_83
  have e120 := @b_X6_readLaws_120
  have e150 := @b_X6_readLaws_150
  have e164 := @b_X6_readLaws_164
  have e165 := @b_X6_readLaws_165
  have c34 := sp_X6_isWord (E := E) (d := d + 2) hR (i := 34) (by decide)
  have c41 := sp_X6_isWord (E := E) (d := d + 2) hR (i := 41) (by decide)
  rw [iw_134] at c34
  rw [iw_141] at c41
  -- words are words
  have two : ∀ i j, i < 47 → j < 47 → val i ≠ val j → iw X e i ≠ 0 → iw X e j = 0 := by
    intro i j _ _ hv h1
    refine iw_0 (fun z => hv ?_)
    rw [← (iw_k h1).2, ← z.2]
  have k2 : tK X e = 2 := by
    by_cases h5 : iw X e 5 = 0
    · by_cases h10 : iw X e 10 = 0
      · exact (iw_k (fun h18 => hh ⟨h5, h10, h18⟩)).1
      · exact (iw_k h10).1
    · exact (iw_k h5).1
  obtain ⟨g1, I1, a1, R1, f1⟩ := hR.nx (d := d + 6) hB (by rw [k2]; decide)
  -- from 83 on
  have st83 : ∀ (x : Int32), (iw X e 10 ≠ 0 → x = 2) → (iw X e 10 = 0 → iw X e 18 ≠ 0 → x = 3) → (iw X e 10 = 0 → iw X e 18 = 0 → x = 0) → ∀ z, zAt E (d + 8) 142 83 [some (zr (some w)), some (zi n), some (zi 1), u3, u4, u5, u6] [zi x] (zwi (zwg S g) I) z → zAt E (d + 8) 142 56 [some (zr (some w)), some (zi n), some (zi 1), u3, u4, u5, u6] [] (zwi (zwg S g) I) z := by
    intro x x1 x2 x3 z hz
    by_cases h10 : iw X e 10 = 0
    · by_cases h18 : iw X e 18 = 0
      · rw [x3 h10 h18] at hz
        refine zat_in zP_X6_readLaws zk_X6_readLaws_56 ?_
        simp (disch := omega) only [e56, zif, zdr, zkb, mK_wi, mN_wi, mJ_wi, mI_wi, sI_wi, beq_self_eq_true, Bool.true_or, Bool.or_true, Bool.or_false, Bool.and_self, Bool.and_true, Bool.true_and, ↓reduceIte, ble_up0, i_cl, i_succ, zix_of, zfl_k, zup_k, zup_q, w0, mK_wg]
        refine ev_ci c34 ?_
        refine ev_th _ (fun _ => ?_) (fun h => absurd h10 h)
        refine ev_bk ?_
        refine zat_in zP_X6_readLaws zk_X6_readLaws_69 ?_
        simp (disch := omega) only [e69, zif, zdr, zkb, mK_wi, mN_wi, mJ_wi, mI_wi, sI_wi, beq_self_eq_true, Bool.true_or, Bool.or_true, Bool.or_false, Bool.and_self, Bool.and_true, Bool.true_and, ↓reduceIte, ble_up0, i_cl, i_succ, zix_of, zfl_k, zup_k, zup_q, w0, mK_wg]
        refine ev_ci c41 ?_
        refine ev_th _ (fun _ => ?_) (fun h => absurd h18 h)
        refine ev_bk ?_
        refine zat_in zP_X6_readLaws zk_X6_readLaws_82 ?_
        simp only [e82]
        exact ev_tl zP_X6_readLaws zk_X6_readLaws_83 hz
      · rw [x2 h10 h18] at hz
        refine zat_in zP_X6_readLaws zk_X6_readLaws_56 ?_
        simp (disch := omega) only [e56, zif, zdr, zkb, mK_wi, mN_wi, mJ_wi, mI_wi, sI_wi, beq_self_eq_true, Bool.true_or, Bool.or_true, Bool.or_false, Bool.and_self, Bool.and_true, Bool.true_and, ↓reduceIte, ble_up0, i_cl, i_succ, zix_of, zfl_k, zup_k, zup_q, w0, mK_wg]
        refine ev_ci c34 ?_
        refine ev_th _ (fun _ => ?_) (fun h => absurd h10 h)
        refine ev_bk ?_
        refine zat_in zP_X6_readLaws zk_X6_readLaws_69 ?_
        simp (disch := omega) only [e69, zif, zdr, zkb, mK_wi, mN_wi, mJ_wi, mI_wi, sI_wi, beq_self_eq_true, Bool.true_or, Bool.or_true, Bool.or_false, Bool.and_self, Bool.and_true, Bool.true_and, ↓reduceIte, ble_up0, i_cl, i_succ, zix_of, zfl_k, zup_k, zup_q, w0, mK_wg]
        refine ev_ci c41 ?_
        refine ev_th _ (fun h => absurd h h18) (fun _ => ev_bk hz)
    · rw [x1 h10] at hz
      refine zat_in zP_X6_readLaws zk_X6_readLaws_56 ?_
      simp (disch := omega) only [e56, zif, zdr, zkb, mK_wi, mN_wi, mJ_wi, mI_wi, sI_wi, beq_self_eq_true, Bool.true_or, Bool.or_true, Bool.or_false, Bool.and_self, Bool.and_true, Bool.true_and, ↓reduceIte, ble_up0, i_cl, i_succ, zix_of, zfl_k, zup_k, zup_q, w0, mK_wg]
      refine ev_ci c34 ?_
      refine ev_th _ (fun h => absurd h h10) (fun _ => ev_bk hz)
  by_cases n1 : tK X (tE X e) = 3
  · obtain ⟨g2, I2, a2, R2, f2⟩ := sp_X6_needNumber_1 (d := d + 5) hB R1 n1
    have fA := f1.tr f2
    unfold pLw
    by_cases h5 : iw X e 5 = 0
    · rw [if_pos h5]
      by_cases h10 : iw X e 10 = 0
      · have h18 : iw X e 18 ≠ 0 := fun h18 => hh ⟨h5, h10, h18⟩
        rw [if_pos h10, if_neg h18, if_pos n1]
        have st := st83 3 (fun h => absurd h10 h) (fun _ _ => rfl) (fun _ h => absurd h h18)
        by_cases h19 : iw X (tE X (tE X e)) 19 = 0
        · rw [if_pos h19]
          refine ⟨fun f p h => ?_, fun t e' h => by cases h⟩
          obtain ⟨rfl, rfl⟩ := Prod.mk.inj (Sum.inl.inj h)
          have h42 : ¬ isw X (tE X (tE X e)) 42 := by rw [← iw_142] at h19; exact iw_n h19
          obtain ⟨I3, a3, b3, f3⟩ := sp_X6_needWord_0 (d := d + 1) hB R2 (i := 42) (by decide) h42
          refine ⟨g2, I3, st _ ?_, b3, fA.h.tr (mHf_q f3)⟩
          refine zat_in zP_X6_readLaws zk_X6_readLaws_83 ?_
          simp (disch := omega) only [e83, zif, zdr, zkb, mK_wi, mN_wi, mJ_wi, mI_wi, sI_wi, beq_self_eq_true, Bool.true_or, Bool.or_true, Bool.or_false, Bool.and_self, Bool.and_true, Bool.true_and, ↓reduceIte, ble_up0, i_cl, i_succ, zix_of, zfl_k, zup_k, zup_q, w0, mK_wg]
          refine ev_cv a1 ?_
          try simp (disch := omega) only [zif, zdr, zkb, mK_wi, mN_wi, mJ_wi, mI_wi, sI_wi, beq_self_eq_true, Bool.true_or, Bool.or_true, Bool.or_false, Bool.and_self, Bool.and_true, Bool.true_and, ↓reduceIte, ble_up0, i_cl, i_succ, zix_of, zfl_k, zup_k, zup_q, w0, mK_wg]
          refine ev_ci a2 ?_
          try simp (disch := omega) only [zif, zdr, zkb, mK_wi, mN_wi, mJ_wi, mI_wi, sI_wi, beq_self_eq_true, Bool.true_or, Bool.or_true, Bool.or_false, Bool.and_self, Bool.and_true, Bool.true_and, ↓reduceIte, ble_up0, i_cl, i_succ, zix_of, zfl_k, zup_k, zup_q, w0, mK_wg]
          refine ev_cvx a3 ?_
          exact ev_r
        · rw [if_neg h19]
          have h42 : isw X (tE X (tE X e)) 42 := by rw [← iw_142] at h19; exact iw_y h19
          obtain ⟨g3, I3, a3, R3, f3⟩ := sp_X6_needWord_1 (d := d + 1) hB R2 (i := 42) (by decide) h42
          by_cases n3 : tK X (tE X (tE X (tE X e))) = 3
          · rw [if_pos n3]
            refine ⟨fun f p h => (by cases h), fun t e' h => ?_⟩
            obtain ⟨rfl, rfl⟩ := Prod.mk.inj (Sum.inr.inj h)
            obtain ⟨g4, I4, a4, R4, f4⟩ := sp_X6_needNumber_1 (d := d + 5) hB R3 n3
            refine ⟨g4, I4, fun z hz => st _ ?_, R4, (fA.tr f3).tr f4⟩
            refine zat_in zP_X6_readLaws zk_X6_readLaws_83 ?_
            simp (disch := omega) only [e83, zif, zdr, zkb, mK_wi, mN_wi, mJ_wi, mI_wi, sI_wi, beq_self_eq_true, Bool.true_or, Bool.or_true, Bool.or_false, Bool.and_self, Bool.and_true, Bool.true_and, ↓reduceIte, ble_up0, i_cl, i_succ, zix_of, zfl_k, zup_k, zup_q, w0, mK_wg]
            refine ev_cv a1 ?_
            try simp (disch := omega) only [zif, zdr, zkb, mK_wi, mN_wi, mJ_wi, mI_wi, sI_wi, beq_self_eq_true, Bool.true_or, Bool.or_true, Bool.or_false, Bool.and_self, Bool.and_true, Bool.true_and, ↓reduceIte, ble_up0, i_cl, i_succ, zix_of, zfl_k, zup_k, zup_q, w0, mK_wg]
            refine ev_ci a2 ?_
            try simp (disch := omega) only [zif, zdr, zkb, mK_wi, mN_wi, mJ_wi, mI_wi, sI_wi, beq_self_eq_true, Bool.true_or, Bool.or_true, Bool.or_false, Bool.and_self, Bool.and_true, Bool.true_and, ↓reduceIte, ble_up0, i_cl, i_succ, zix_of, zfl_k, zup_k, zup_q, w0, mK_wg]
            refine ev_cv a3 ?_
            try simp (disch := omega) only [zif, zdr, zkb, mK_wi, mN_wi, mJ_wi, mI_wi, sI_wi, beq_self_eq_true, Bool.true_or, Bool.or_true, Bool.or_false, Bool.and_self, Bool.and_true, Bool.true_and, ↓reduceIte, ble_up0, i_cl, i_succ, zix_of, zfl_k, zup_k, zup_q, w0, mK_wg]
            refine ev_ci a4 ?_
            exact ev_bk hz
          · rw [if_neg n3]
            refine ⟨fun f p h => ?_, fun t e' h => by cases h⟩
            obtain ⟨rfl, rfl⟩ := Prod.mk.inj (Sum.inl.inj h)
            obtain ⟨I4, a4, b4, f4⟩ := sp_X6_needNumber_0 (d := d + 6) hB R3 n3
            refine ⟨g3, I4, st _ ?_, b4, (fA.tr f3).h.tr (mHf_q f4)⟩
            refine zat_in zP_X6_readLaws zk_X6_readLaws_83 ?_
            simp (disch := omega) only [e83, zif, zdr, zkb, mK_wi, mN_wi, mJ_wi, mI_wi, sI_wi, beq_self_eq_true, Bool.true_or, Bool.or_true, Bool.or_false, Bool.and_self, Bool.and_true, Bool.true_and, ↓reduceIte, ble_up0, i_cl, i_succ, zix_of, zfl_k, zup_k, zup_q, w0, mK_wg]
            refine ev_cv a1 ?_
            try simp (disch := omega) only [zif, zdr, zkb, mK_wi, mN_wi, mJ_wi, mI_wi, sI_wi, beq_self_eq_true, Bool.true_or, Bool.or_true, Bool.or_false, Bool.and_self, Bool.and_true, Bool.true_and, ↓reduceIte, ble_up0, i_cl, i_succ, zix_of, zfl_k, zup_k, zup_q, w0, mK_wg]
            refine ev_ci a2 ?_
            try simp (disch := omega) only [zif, zdr, zkb, mK_wi, mN_wi, mJ_wi, mI_wi, sI_wi, beq_self_eq_true, Bool.true_or, Bool.or_true, Bool.or_false, Bool.and_self, Bool.and_true, Bool.true_and, ↓reduceIte, ble_up0, i_cl, i_succ, zix_of, zfl_k, zup_k, zup_q, w0, mK_wg]
            refine ev_cv a3 ?_
            try simp (disch := omega) only [zif, zdr, zkb, mK_wi, mN_wi, mJ_wi, mI_wi, sI_wi, beq_self_eq_true, Bool.true_or, Bool.or_true, Bool.or_false, Bool.and_self, Bool.and_true, Bool.true_and, ↓reduceIte, ble_up0, i_cl, i_succ, zix_of, zfl_k, zup_k, zup_q, w0, mK_wg]
            refine ev_cix a4 ?_
            exact ev_r
      · rw [if_neg h10, if_pos n1]
        refine ⟨fun f p h => (by cases h), fun t e' h => ?_⟩
        obtain ⟨rfl, rfl⟩ := Prod.mk.inj (Sum.inr.inj h)
        have st := st83 2 (fun _ => rfl) (fun h => absurd h h10) (fun h => absurd h h10)
        refine ⟨g2, I2, fun z hz => st _ ?_, R2, fA⟩
        refine zat_in zP_X6_readLaws zk_X6_readLaws_83 ?_
        simp (disch := omega) only [e83, zif, zdr, zkb, mK_wi, mN_wi, mJ_wi, mI_wi, sI_wi, beq_self_eq_true, Bool.true_or, Bool.or_true, Bool.or_false, Bool.and_self, Bool.and_true, Bool.true_and, ↓reduceIte, ble_up0, i_cl, i_succ, zix_of, zfl_k, zup_k, zup_q, w0, mK_wg]
        refine ev_cv a1 ?_
        try simp (disch := omega) only [zif, zdr, zkb, mK_wi, mN_wi, mJ_wi, mI_wi, sI_wi, beq_self_eq_true, Bool.true_or, Bool.or_true, Bool.or_false, Bool.and_self, Bool.and_true, Bool.true_and, ↓reduceIte, ble_up0, i_cl, i_succ, zix_of, zfl_k, zup_k, zup_q, w0, mK_wg]
        refine ev_ci a2 ?_
        refine ev_th _ (fun h => absurd h (by decide)) (fun _ => ?_)
        refine ev_bk ?_
        refine zat_in zP_X6_readLaws zk_X6_readLaws_120 ?_
        simp only [e120]
        refine ev_th _ (fun h => absurd h (by decide)) (fun _ => ?_)
        exact ev_bk hz
    · rw [if_neg h5, if_pos n1]
      have h10 : iw X e 10 = 0 := two 5 10 (by decide) (by decide) (by decide +kernel) h5
      have h18 : iw X e 18 = 0 := two 5 18 (by decide) (by decide) (by decide +kernel) h5
      have st := st83 0 (fun h => absurd h10 h) (fun _ h => absurd h18 h) (fun _ _ => rfl)
      have c43 := sp_X6_isWord (E := E) (d := d + 2) R2 (i := 43) (by decide)
      have c44 := sp_X6_isWord (E := E) (d := d + 2) R2 (i := 44) (by decide)
      rw [iw_143] at c43
      rw [iw_144] at c44
      have st120 : ∀ z, zAt E (d + 8) 142 120 [some (zr (some w)), some (zi n), some (zi 1), some (zi 0), some (zi (tN X (tE X e))), some (zi 0), some (zi 0)] [] (zwi (zwg S g2) I2) z → zAt E (d + 8) 142 56 [some (zr (some w)), some (zi n), some (zi 1), u3, u4, u5, u6] [] (zwi (zwg S g) I) z := by
        intro z hz
        refine st _ ?_
        refine zat_in zP_X6_readLaws zk_X6_readLaws_83 ?_
        simp (disch := omega) only [e83, zif, zdr, zkb, mK_wi, mN_wi, mJ_wi, mI_wi, sI_wi, beq_self_eq_true, Bool.true_or, Bool.or_true, Bool.or_false, Bool.and_self, Bool.and_true, Bool.true_and, ↓reduceIte, ble_up0, i_cl, i_succ, zix_of, zfl_k, zup_k, zup_q, w0, mK_wg]
        refine ev_cv a1 ?_
        try simp (disch := omega) only [zif, zdr, zkb, mK_wi, mN_wi, mJ_wi, mI_wi, sI_wi, beq_self_eq_true, Bool.true_or, Bool.or_true, Bool.or_false, Bool.and_self, Bool.and_true, Bool.true_and, ↓reduceIte, ble_up0, i_cl, i_succ, zix_of, zfl_k, zup_k, zup_q, w0, mK_wg]
        refine ev_ci a2 ?_
        refine ev_th _ (fun h => absurd h (by decide)) (fun _ => ?_)
        exact ev_bk hz
      by_cases h15 : iw X (tE X (tE X e)) 15 = 0
      · rw [if_pos h15]
        by_cases h16 : iw X (tE X (tE X e)) 16 = 0
        · rw [if_pos h16]
          refine ⟨fun f p h => ?_, fun t e' h => by cases h⟩
          obtain ⟨rfl, rfl⟩ := Prod.mk.inj (Sum.inl.inj h)
          have cs := sp_X6_stop (E := E) (d := d + 7) (f := 1) hB R2
          refine ⟨g2, _, st120 _ ?_, mTh_i, fA.h.tr mHf_th⟩
          refine zat_in zP_X6_readLaws zk_X6_readLaws_120 ?_
          simp (disch := omega) only [e120, zif, zdr, zkb, mK_wi, mN_wi, mJ_wi, mI_wi, sI_wi, beq_self_eq_true, Bool.true_or, Bool.or_true, Bool.or_false, Bool.and_self, Bool.and_true, Bool.true_and, ↓reduceIte, ble_up0, i_cl, i_succ, zix_of, zfl_k, zup_k, zup_q, w0, mK_wg]
          refine ev_ci c43 ?_
          refine ev_th _ (fun _ => ?_) (fun h => absurd h15 h)
          simp (disch := omega) only [zif, zdr, zkb, mK_wi, mN_wi, mJ_wi, mI_wi, sI_wi, beq_self_eq_true, Bool.true_or, Bool.or_true, Bool.or_false, Bool.and_self, Bool.and_true, Bool.true_and, ↓reduceIte, ble_up0, i_cl, i_succ, zix_of, zfl_k, zup_k, zup_q, w0, mK_wg]
          refine ev_ci c44 ?_
          refine ev_th _ (fun _ => ?_) (fun h => absurd h16 h)
          simp (disch := omega) only [zif, zdr, zkb, mK_wi, mN_wi, mJ_wi, mI_wi, sI_wi, beq_self_eq_true, Bool.true_or, Bool.or_true, Bool.or_false, Bool.and_self, Bool.and_true, Bool.true_and, ↓reduceIte, ble_up0, i_cl, i_succ, zix_of, zfl_k, zup_k, zup_q, w0, mK_wg]
          refine ev_cr cs ?_
          try simp (disch := omega) only [zif, zdr, zkb, mK_wi, mN_wi, mJ_wi, mI_wi, sI_wi, beq_self_eq_true, Bool.true_or, Bool.or_true, Bool.or_false, Bool.and_self, Bool.and_true, Bool.true_and, ↓reduceIte, ble_up0, i_cl, i_succ, zix_of, zfl_k, zup_k, zup_q, mK_wg, k19]
          exact ev_r
        · rw [if_neg h16]
          obtain ⟨g3, I3, a3, R3, f3⟩ := R2.nx (d := d + 6) hB (by rw [(iw_k h16).1]; decide)
          have st165 : ∀ z, zAt E (d + 8) 142 165 [some (zr (some w)), some (zi n), some (zi 1), some (zi 0), some (zi (tN X (tE X e))), some (zi 0), some (zi 0)] [zi 1] (zwi (zwg S g2) I2) z → zAt E (d + 8) 142 56 [some (zr (some w)), some (zi n), some (zi 1), u3, u4, u5, u6] [] (zwi (zwg S g) I) z := by
            intro z hz
            refine st120 _ ?_
            refine zat_in zP_X6_readLaws zk_X6_readLaws_120 ?_
            simp (disch := omega) only [e120, zif, zdr, zkb, mK_wi, mN_wi, mJ_wi, mI_wi, sI_wi, beq_self_eq_true, Bool.true_or, Bool.or_true, Bool.or_false, Bool.and_self, Bool.and_true, Bool.true_and, ↓reduceIte, ble_up0, i_cl, i_succ, zix_of, zfl_k, zup_k, zup_q, w0, mK_wg]
            refine ev_ci c43 ?_
            refine ev_th _ (fun _ => ?_) (fun h => absurd h15 h)
            simp (disch := omega) only [zif, zdr, zkb, mK_wi, mN_wi, mJ_wi, mI_wi, sI_wi, beq_self_eq_true, Bool.true_or, Bool.or_true, Bool.or_false, Bool.and_self, Bool.and_true, Bool.true_and, ↓reduceIte, ble_up0, i_cl, i_succ, zix_of, zfl_k, zup_k, zup_q, w0, mK_wg]
            refine ev_ci c44 ?_
            refine ev_th _ (fun h => absurd h h16) (fun _ => ?_)
            refine ev_bk ?_
            refine zat_in zP_X6_readLaws zk_X6_readLaws_150 ?_
            simp (disch := omega) only [e150, zif, zdr, zkb, mK_wi, mN_wi, mJ_wi, mI_wi, sI_wi, beq_self_eq_true, Bool.true_or, Bool.or_true, Bool.or_false, Bool.and_self, Bool.and_true, Bool.true_and, ↓reduceIte, ble_up0, i_cl, i_succ, zix_of, zfl_k, zup_k, zup_q, w0, mK_wg]
            refine ev_ci c43 ?_
            refine ev_th _ (fun _ => ?_) (fun h => absurd h15 h)
            refine ev_bk ?_
            refine zat_in zP_X6_readLaws zk_X6_readLaws_164 ?_
            simp only [e164]
            exact ev_tl zP_X6_readLaws zk_X6_readLaws_165 hz
          by_cases n3 : tK X (tE X (tE X (tE X e))) = 3
          · rw [if_pos n3]
            obtain ⟨g4, I4, a4, R4, f4⟩ := sp_X6_needNumber_1 (d := d + 5) hB R3 n3
            by_cases h17 : iw X (tE X (tE X (tE X (tE X e)))) 17 = 0
            · rw [if_pos h17]
              refine ⟨fun f p h => ?_, fun t e' h => by cases h⟩
              obtain ⟨rfl, rfl⟩ := Prod.mk.inj (Sum.inl.inj h)
              have h45 : ¬ isw X (tE X (tE X (tE X (tE X e)))) 45 := by rw [← iw_145] at h17; exact iw_n h17
              obtain ⟨I5, a5, b5, f5⟩ := sp_X6_needWord_0 (d := d + 1) hB R4 (i := 45) (by decide) h45
              refine ⟨g4, I5, st165 _ ?_, b5, ((fA.tr f3).tr f4).h.tr (mHf_q f5)⟩
              refine zat_in zP_X6_readLaws zk_X6_readLaws_165 ?_
              simp (disch := omega) only [e165, zif, zdr, zkb, mK_wi, mN_wi, mJ_wi, mI_wi, sI_wi, beq_self_eq_true, Bool.true_or, Bool.or_true, Bool.or_false, Bool.and_self, Bool.and_true, Bool.true_and, ↓reduceIte, ble_up0, i_cl, i_succ, zix_of, zfl_k, zup_k, zup_q, w0, mK_wg]
              refine ev_cv a3 ?_
              try simp (disch := omega) only [zif, zdr, zkb, mK_wi, mN_wi, mJ_wi, mI_wi, sI_wi, beq_self_eq_true, Bool.true_or, Bool.or_true, Bool.or_false, Bool.and_self, Bool.and_true, Bool.true_and, ↓reduceIte, ble_up0, i_cl, i_succ, zix_of, zfl_k, zup_k, zup_q, w0, mK_wg]
              refine ev_ci a4 ?_
              try simp (disch := omega) only [zif, zdr, zkb, mK_wi, mN_wi, mJ_wi, mI_wi, sI_wi, beq_self_eq_true, Bool.true_or, Bool.or_true, Bool.or_false, Bool.and_self, Bool.and_true, Bool.true_and, ↓reduceIte, ble_up0, i_cl, i_succ, zix_of, zfl_k, zup_k, zup_q, w0, mK_wg]
              refine ev_cvx a5 ?_
              exact ev_r
            · rw [if_neg h17]
              have h45 : isw X (tE X (tE X (tE X (tE X e)))) 45 := by rw [← iw_145] at h17; exact iw_y h17
              obtain ⟨g5, I5, a5, R5, f5⟩ := sp_X6_needWord_1 (d := d + 1) hB R4 (i := 45) (by decide) h45
              by_cases n5 : tK X (tE X (tE X (tE X (tE X (tE X e))))) = 3
              · rw [if_pos n5]
                refine ⟨fun f p h => (by cases h), fun t e' h => ?_⟩
                obtain ⟨rfl, rfl⟩ := Prod.mk.inj (Sum.inr.inj h)
                obtain ⟨g6, I6, a6, R6, f6⟩ := sp_X6_needNumber_1 (d := d + 5) hB R5 n5
                refine ⟨g6, I6, fun z hz => st165 _ ?_, R6, (((fA.tr f3).tr f4).tr f5).tr f6⟩
                refine zat_in zP_X6_readLaws zk_X6_readLaws_165 ?_
                simp (disch := omega) only [e165, zif, zdr, zkb, mK_wi, mN_wi, mJ_wi, mI_wi, sI_wi, beq_self_eq_true, Bool.true_or, Bool.or_true, Bool.or_false, Bool.and_self, Bool.and_true, Bool.true_and, ↓reduceIte, ble_up0, i_cl, i_succ, zix_of, zfl_k, zup_k, zup_q, w0, mK_wg]
                refine ev_cv a3 ?_
                try simp (disch := omega) only [zif, zdr, zkb, mK_wi, mN_wi, mJ_wi, mI_wi, sI_wi, beq_self_eq_true, Bool.true_or, Bool.or_true, Bool.or_false, Bool.and_self, Bool.and_true, Bool.true_and, ↓reduceIte, ble_up0, i_cl, i_succ, zix_of, zfl_k, zup_k, zup_q, w0, mK_wg]
                refine ev_ci a4 ?_
                try simp (disch := omega) only [zif, zdr, zkb, mK_wi, mN_wi, mJ_wi, mI_wi, sI_wi, beq_self_eq_true, Bool.true_or, Bool.or_true, Bool.or_false, Bool.and_self, Bool.and_true, Bool.true_and, ↓reduceIte, ble_up0, i_cl, i_succ, zix_of, zfl_k, zup_k, zup_q, w0, mK_wg]
                refine ev_cv a5 ?_
                try simp (disch := omega) only [zif, zdr, zkb, mK_wi, mN_wi, mJ_wi, mI_wi, sI_wi, beq_self_eq_true, Bool.true_or, Bool.or_true, Bool.or_false, Bool.and_self, Bool.and_true, Bool.true_and, ↓reduceIte, ble_up0, i_cl, i_succ, zix_of, zfl_k, zup_k, zup_q, w0, mK_wg]
                refine ev_ci a6 ?_
                exact ev_tl zP_X6_readLaws zk_X6_readLaws_194 hz
              · rw [if_neg n5]
                refine ⟨fun f p h => ?_, fun t e' h => by cases h⟩
                obtain ⟨rfl, rfl⟩ := Prod.mk.inj (Sum.inl.inj h)
                obtain ⟨I6, a6, b6, f6⟩ := sp_X6_needNumber_0 (d := d + 6) hB R5 n5
                refine ⟨g5, I6, st165 _ ?_, b6, (((fA.tr f3).tr f4).tr f5).h.tr (mHf_q f6)⟩
                refine zat_in zP_X6_readLaws zk_X6_readLaws_165 ?_
                simp (disch := omega) only [e165, zif, zdr, zkb, mK_wi, mN_wi, mJ_wi, mI_wi, sI_wi, beq_self_eq_true, Bool.true_or, Bool.or_true, Bool.or_false, Bool.and_self, Bool.and_true, Bool.true_and, ↓reduceIte, ble_up0, i_cl, i_succ, zix_of, zfl_k, zup_k, zup_q, w0, mK_wg]
                refine ev_cv a3 ?_
                try simp (disch := omega) only [zif, zdr, zkb, mK_wi, mN_wi, mJ_wi, mI_wi, sI_wi, beq_self_eq_true, Bool.true_or, Bool.or_true, Bool.or_false, Bool.and_self, Bool.and_true, Bool.true_and, ↓reduceIte, ble_up0, i_cl, i_succ, zix_of, zfl_k, zup_k, zup_q, w0, mK_wg]
                refine ev_ci a4 ?_
                try simp (disch := omega) only [zif, zdr, zkb, mK_wi, mN_wi, mJ_wi, mI_wi, sI_wi, beq_self_eq_true, Bool.true_or, Bool.or_true, Bool.or_false, Bool.and_self, Bool.and_true, Bool.true_and, ↓reduceIte, ble_up0, i_cl, i_succ, zix_of, zfl_k, zup_k, zup_q, w0, mK_wg]
                refine ev_cv a5 ?_
                try simp (disch := omega) only [zif, zdr, zkb, mK_wi, mN_wi, mJ_wi, mI_wi, sI_wi, beq_self_eq_true, Bool.true_or, Bool.or_true, Bool.or_false, Bool.and_self, Bool.and_true, Bool.true_and, ↓reduceIte, ble_up0, i_cl, i_succ, zix_of, zfl_k, zup_k, zup_q, w0, mK_wg]
                refine ev_cix a6 ?_
                exact ev_r
          · rw [if_neg n3]
            refine ⟨fun f p h => ?_, fun t e' h => by cases h⟩
            obtain ⟨rfl, rfl⟩ := Prod.mk.inj (Sum.inl.inj h)
            obtain ⟨I4, a4, b4, f4⟩ := sp_X6_needNumber_0 (d := d + 6) hB R3 n3
            refine ⟨g3, I4, st165 _ ?_, b4, (fA.tr f3).h.tr (mHf_q f4)⟩
            refine zat_in zP_X6_readLaws zk_X6_readLaws_165 ?_
            simp (disch := omega) only [e165, zif, zdr, zkb, mK_wi, mN_wi, mJ_wi, mI_wi, sI_wi, beq_self_eq_true, Bool.true_or, Bool.or_true, Bool.or_false, Bool.and_self, Bool.and_true, Bool.true_and, ↓reduceIte, ble_up0, i_cl, i_succ, zix_of, zfl_k, zup_k, zup_q, w0, mK_wg]
            refine ev_cv a3 ?_
            try simp (disch := omega) only [zif, zdr, zkb, mK_wi, mN_wi, mJ_wi, mI_wi, sI_wi, beq_self_eq_true, Bool.true_or, Bool.or_true, Bool.or_false, Bool.and_self, Bool.and_true, Bool.true_and, ↓reduceIte, ble_up0, i_cl, i_succ, zix_of, zfl_k, zup_k, zup_q, w0, mK_wg]
            refine ev_cix a4 ?_
            exact ev_r
      · rw [if_neg h15]
        obtain ⟨g3, I3, a3, R3, f3⟩ := R2.nx (d := d + 6) hB (by rw [(iw_k h15).1]; decide)
        have st165 : ∀ z, zAt E (d + 8) 142 165 [some (zr (some w)), some (zi n), some (zi 1), some (zi 0), some (zi (tN X (tE X e))), some (zi 0), some (zi 0)] [zi 0] (zwi (zwg S g2) I2) z → zAt E (d + 8) 142 56 [some (zr (some w)), some (zi n), some (zi 1), u3, u4, u5, u6] [] (zwi (zwg S g) I) z := by
          intro z hz
          refine st120 _ ?_
          refine zat_in zP_X6_readLaws zk_X6_readLaws_120 ?_
          simp (disch := omega) only [e120, zif, zdr, zkb, mK_wi, mN_wi, mJ_wi, mI_wi, sI_wi, beq_self_eq_true, Bool.true_or, Bool.or_true, Bool.or_false, Bool.and_self, Bool.and_true, Bool.true_and, ↓reduceIte, ble_up0, i_cl, i_succ, zix_of, zfl_k, zup_k, zup_q, w0, mK_wg]
          refine ev_ci c43 ?_
          refine ev_th _ (fun h => absurd h h15) (fun _ => ?_)
          refine ev_bk ?_
          refine zat_in zP_X6_readLaws zk_X6_readLaws_150 ?_
          simp (disch := omega) only [e150, zif, zdr, zkb, mK_wi, mN_wi, mJ_wi, mI_wi, sI_wi, beq_self_eq_true, Bool.true_or, Bool.or_true, Bool.or_false, Bool.and_self, Bool.and_true, Bool.true_and, ↓reduceIte, ble_up0, i_cl, i_succ, zix_of, zfl_k, zup_k, zup_q, w0, mK_wg]
          refine ev_ci c43 ?_
          refine ev_th _ (fun h => absurd h h15) (fun _ => ?_)
          exact ev_bk hz
        by_cases n3 : tK X (tE X (tE X (tE X e))) = 3
        · rw [if_pos n3]
          refine ⟨fun f p h => (by cases h), fun t e' h => ?_⟩
          obtain ⟨rfl, rfl⟩ := Prod.mk.inj (Sum.inr.inj h)
          obtain ⟨g4, I4, a4, R4, f4⟩ := sp_X6_needNumber_1 (d := d + 5) hB R3 n3
          refine ⟨g4, I4, fun z hz => st165 _ ?_, R4, (fA.tr f3).tr f4⟩
          refine zat_in zP_X6_readLaws zk_X6_readLaws_165 ?_
          simp (disch := omega) only [e165, zif, zdr, zkb, mK_wi, mN_wi, mJ_wi, mI_wi, sI_wi, beq_self_eq_true, Bool.true_or, Bool.or_true, Bool.or_false, Bool.and_self, Bool.and_true, Bool.true_and, ↓reduceIte, ble_up0, i_cl, i_succ, zix_of, zfl_k, zup_k, zup_q, w0, mK_wg]
          refine ev_cv a3 ?_
          try simp (disch := omega) only [zif, zdr, zkb, mK_wi, mN_wi, mJ_wi, mI_wi, sI_wi, beq_self_eq_true, Bool.true_or, Bool.or_true, Bool.or_false, Bool.and_self, Bool.and_true, Bool.true_and, ↓reduceIte, ble_up0, i_cl, i_succ, zix_of, zfl_k, zup_k, zup_q, w0, mK_wg]
          refine ev_ci a4 ?_
          refine ev_th _ (fun h => absurd h (by decide)) (fun _ => ?_)
          exact ev_bk hz
        · rw [if_neg n3]
          refine ⟨fun f p h => ?_, fun t e' h => by cases h⟩
          obtain ⟨rfl, rfl⟩ := Prod.mk.inj (Sum.inl.inj h)
          obtain ⟨I4, a4, b4, f4⟩ := sp_X6_needNumber_0 (d := d + 6) hB R3 n3
          refine ⟨g3, I4, st165 _ ?_, b4, (fA.tr f3).h.tr (mHf_q f4)⟩
          refine zat_in zP_X6_readLaws zk_X6_readLaws_165 ?_
          simp (disch := omega) only [e165, zif, zdr, zkb, mK_wi, mN_wi, mJ_wi, mI_wi, sI_wi, beq_self_eq_true, Bool.true_or, Bool.or_true, Bool.or_false, Bool.and_self, Bool.and_true, Bool.true_and, ↓reduceIte, ble_up0, i_cl, i_succ, zix_of, zfl_k, zup_k, zup_q, w0, mK_wg]
          refine ev_cv a3 ?_
          try simp (disch := omega) only [zif, zdr, zkb, mK_wi, mN_wi, mJ_wi, mI_wi, sI_wi, beq_self_eq_true, Bool.true_or, Bool.or_true, Bool.or_false, Bool.and_self, Bool.and_true, Bool.true_and, ↓reduceIte, ble_up0, i_cl, i_succ, zix_of, zfl_k, zup_k, zup_q, w0, mK_wg]
          refine ev_cix a4 ?_
          exact ev_r
  · -- no number
    have hq : pLw X e = Sum.inl (1, kA X (tE X e)) := by
      unfold pLw
      by_cases h5 : iw X e 5 = 0
      · rw [if_pos h5]
        by_cases h10 : iw X e 10 = 0
        · have h18 : iw X e 18 ≠ 0 := fun h18 => hh ⟨h5, h10, h18⟩
          rw [if_pos h10, if_neg h18, if_neg n1]
        · rw [if_neg h10, if_neg n1]
      · rw [if_neg h5, if_neg n1]
    rw [hq]
    refine ⟨fun f p h => ?_, fun t e' h => by cases h⟩
    obtain ⟨rfl, rfl⟩ := Prod.mk.inj (Sum.inl.inj h)
    obtain ⟨I2, a2, b2, f2⟩ := sp_X6_needNumber_0 (d := d + 6) hB R1 n1
    refine ⟨g1, I2, st83 (if iw X e 10 = 0 then (if iw X e 18 = 0 then 0 else 3) else 2) (fun h => if_neg h) (fun h h' => by rw [if_pos h, if_neg h']) (fun h h' => by rw [if_pos h, if_pos h']) _ ?_, b2, f1.h.tr (mHf_q f2)⟩
    refine zat_in zP_X6_readLaws zk_X6_readLaws_83 ?_
    simp (disch := omega) only [e83, zif, zdr, zkb, mK_wi, mN_wi, mJ_wi, mI_wi, sI_wi, beq_self_eq_true, Bool.true_or, Bool.or_true, Bool.or_false, Bool.and_self, Bool.and_true, Bool.true_and, ↓reduceIte, ble_up0, i_cl, i_succ, zix_of, zfl_k, zup_k, zup_q, w0, mK_wg]
    refine ev_cv a1 ?_
    try simp (disch := omega) only [zif, zdr, zkb, mK_wi, mN_wi, mJ_wi, mI_wi, sI_wi, beq_self_eq_true, Bool.true_or, Bool.or_true, Bool.or_false, Bool.and_self, Bool.and_true, Bool.true_and, ↓reduceIte, ble_up0, i_cl, i_succ, zix_of, zfl_k, zup_k, zup_q, w0, mK_wg]
    refine ev_cix a2 ?_
    exact ev_r
end
section
variable {E : zE} {d w e : Nat} {S : zM} {X : zTx}
theorem pLw_h {X : zTx} {e : Nat} (hh : iw X e 5 = 0 ∧ iw X e 10 = 0 ∧ iw X e 18 = 0) : pLw X e = Sum.inl (1, kA X e) := by
  unfold pLw
  rw [if_pos hh.1, if_pos hh.2.1, if_pos hh.2.2]
theorem lp_X6_readLaws (hB : E.1 ≤ w) (m39 : mJ S w 39 = some (w + 27)) (mk39 : mK S (w + 27) = 101) (mn39 : mN S (w + 27) = 44) : ∀ c n, n + c = 10 → ∀ W e g I (u3 u4 u5 u6 : Option zV), mRD E S g I w X e → mLT I w n W → (∀ f p, pLs X c W n e = Sum.inl (f, p) → ∃ g' I', zAt E (d + 8) 142 7 [some (zr (some w)), some (zi (Int32.ofNat n)), some (zi 1), u3, u4, u5, u6] [] (zwi (zwg S g) I) (Sum.inr (w + 19), zwi (zwg S g') I') ∧ mTh I' w f p ∧ mLf w n I I') ∧ (∀ W' n', pLs X c W n e = Sum.inr (W', n') → ∃ g' I', zAt E (d + 8) 142 7 [some (zr (some w)), some (zi (Int32.ofNat n)), some (zi 1), u3, u4, u5, u6] [] (zwi (zwg S g) I) (Sum.inl (some (zi (Int32.ofNat n'))), zwi (zwg S g') I') ∧ mLT I' w n' W' ∧ mLf w n I I') := by
  have e7 := @b_X6_readLaws_7
  have e44 := @b_X6_readLaws_44
  have e194 := @b_X6_readLaws_194
  have e215 := @b_X6_readLaws_215
  have e239 := @b_X6_readLaws_239
  have e257 := @b_X6_readLaws_257
  have e260 := @b_X6_readLaws_260
  have e274 := @b_X6_readLaws_274
  have hd : ∀ e g I (n : Int32) (u3 u4 u5 u6 : Option zV), mRD E S g I w X e → ((iw X e 5 = 0 ∧ iw X e 10 = 0 ∧ iw X e 18 = 0) → zAt E (d + 8) 142 7 [some (zr (some w)), some (zi n), some (zi 1), u3, u4, u5, u6] [] (zwi (zwg S g) I) (Sum.inr (w + 19), zwi (zwg S g) (zup (zup I (w + 19) 6 1) (w + 19) 7 (Int32.ofNat (kA X e))))) ∧ (¬ (iw X e 5 = 0 ∧ iw X e 10 = 0 ∧ iw X e 18 = 0) → ∀ z, zAt E (d + 8) 142 44 [some (zr (some w)), some (zi n), some (zi 1), u3, u4, u5, u6] [] (zwi (zwg S g) I) z → zAt E (d + 8) 142 7 [some (zr (some w)), some (zi n), some (zi 1), u3, u4, u5, u6] [] (zwi (zwg S g) I) z) := by
    intro e g I n u3 u4 u5 u6 hR
    have w0 := hR.1.1.1
    have k19 := hR.1.2.2
    have c29 := sp_X6_isWord (E := E) (d := d + 2) hR (i := 29) (by decide)
    have c34 := sp_X6_isWord (E := E) (d := d + 2) hR (i := 34) (by decide)
    have c41 := sp_X6_isWord (E := E) (d := d + 2) hR (i := 41) (by decide)
    rw [iw_129] at c29
    rw [iw_134] at c34
    rw [iw_141] at c41
    have cs := sp_X6_stop (E := E) (d := d + 7) (f := 1) hB hR
    constructor
    · intro ⟨h5, h10, h18⟩
      refine zat_in zP_X6_readLaws zk_X6_readLaws_7 ?_
      simp (disch := omega) only [e7, zif, zdr, zkb, mK_wi, mN_wi, mJ_wi, mI_wi, sI_wi, beq_self_eq_true, Bool.true_or, Bool.or_true, Bool.or_false, Bool.and_self, Bool.and_true, Bool.true_and, ↓reduceIte, ble_up0, i_cl, i_succ, zix_of, zfl_k, zup_k, zup_q, i10, w0, mK_wg]
      refine ev_ci c29 ?_
      refine ev_th _ (fun _ => ?_) (fun h => absurd h5 h)
      simp (disch := omega) only [zif, zdr, zkb, mK_wi, mN_wi, mJ_wi, mI_wi, sI_wi, beq_self_eq_true, Bool.true_or, Bool.or_true, Bool.or_false, Bool.and_self, Bool.and_true, Bool.true_and, ↓reduceIte, ble_up0, i_cl, i_succ, zix_of, zfl_k, zup_k, zup_q, w0, mK_wg]
      refine ev_ci c34 ?_
      refine ev_th _ (fun _ => ?_) (fun h => absurd h10 h)
      simp (disch := omega) only [zif, zdr, zkb, mK_wi, mN_wi, mJ_wi, mI_wi, sI_wi, beq_self_eq_true, Bool.true_or, Bool.or_true, Bool.or_false, Bool.and_self, Bool.and_true, Bool.true_and, ↓reduceIte, ble_up0, i_cl, i_succ, zix_of, zfl_k, zup_k, zup_q, w0, mK_wg]
      refine ev_ci c41 ?_
      refine ev_th _ (fun _ => ?_) (fun h => absurd h18 h)
      simp (disch := omega) only [zif, zdr, zkb, mK_wi, mN_wi, mJ_wi, mI_wi, sI_wi, beq_self_eq_true, Bool.true_or, Bool.or_true, Bool.or_false, Bool.and_self, Bool.and_true, Bool.true_and, ↓reduceIte, ble_up0, i_cl, i_succ, zix_of, zfl_k, zup_k, zup_q, w0, mK_wg]
      refine ev_cr cs ?_
      try simp (disch := omega) only [zif, zdr, zkb, mK_wi, mN_wi, mJ_wi, mI_wi, sI_wi, beq_self_eq_true, Bool.true_or, Bool.or_true, Bool.or_false, Bool.and_self, Bool.and_true, Bool.true_and, ↓reduceIte, ble_up0, i_cl, i_succ, zix_of, zfl_k, zup_k, zup_q, mK_wg, k19]
      exact ev_r
    · intro hh z hz
      refine zat_in zP_X6_readLaws zk_X6_readLaws_7 ?_
      simp (disch := omega) only [e7, zif, zdr, zkb, mK_wi, mN_wi, mJ_wi, mI_wi, sI_wi, beq_self_eq_true, Bool.true_or, Bool.or_true, Bool.or_false, Bool.and_self, Bool.and_true, Bool.true_and, ↓reduceIte, ble_up0, i_cl, i_succ, zix_of, zfl_k, zup_k, zup_q, i10, w0, mK_wg]
      refine ev_ci c29 ?_
      refine ev_th _ (fun h5 => ?_) (fun _ => ev_bk hz)
      simp (disch := omega) only [zif, zdr, zkb, mK_wi, mN_wi, mJ_wi, mI_wi, sI_wi, beq_self_eq_true, Bool.true_or, Bool.or_true, Bool.or_false, Bool.and_self, Bool.and_true, Bool.true_and, ↓reduceIte, ble_up0, i_cl, i_succ, zix_of, zfl_k, zup_k, zup_q, w0, mK_wg]
      refine ev_ci c34 ?_
      refine ev_th _ (fun h10 => ?_) (fun _ => ev_bk hz)
      simp (disch := omega) only [zif, zdr, zkb, mK_wi, mN_wi, mJ_wi, mI_wi, sI_wi, beq_self_eq_true, Bool.true_or, Bool.or_true, Bool.or_false, Bool.and_self, Bool.and_true, Bool.true_and, ↓reduceIte, ble_up0, i_cl, i_succ, zix_of, zfl_k, zup_k, zup_q, w0, mK_wg]
      refine ev_ci c41 ?_
      refine ev_th _ (fun h18 => absurd ⟨h5, h10, h18⟩ hh) (fun _ => ev_bk hz)
  intro c
  induction c with
  | zero =>
    intro n hn W e g I u3 u4 u5 u6 hR hL
    obtain rfl : n = 10 := by omega
    have w0 := hR.1.1.1
    have k19 := hR.1.2.2
    refine ⟨fun f p h => ?_, fun W' n' h => by cases h⟩
    obtain ⟨hf, rfl⟩ := Prod.mk.inj (Sum.inl.inj h)
    have h44 : zAt E (d + 8) 142 44 [some (zr (some w)), some (zi (Int32.ofNat 10)), some (zi 1), u3, u4, u5, u6] [] (zwi (zwg S g) I) (Sum.inr (w + 19), zwi (zwg S g) (zup (zup I (w + 19) 6 3) (w + 19) 7 (Int32.ofNat (kA X e)))) := by
      have cs := sp_X6_stop (E := E) (d := d + 7) (f := 3) hB hR
      have d10 : (Int32.ofNat 10 = 10) = True := eq_true rfl
      refine zat_in zP_X6_readLaws zk_X6_readLaws_44 ?_
      simp (disch := omega) only [e44, zif, zdr, zkb, mK_wi, mN_wi, mJ_wi, mI_wi, sI_wi, beq_self_eq_true, Bool.true_or, Bool.or_true, Bool.or_false, Bool.and_self, Bool.and_true, Bool.true_and, ↓reduceIte, ble_up0, i_cl, i_succ, zix_of, zfl_k, zup_k, zup_q, w0, mK_wg, d10]
      refine ev_cr cs ?_
      try simp (disch := omega) only [zif, zdr, zkb, mK_wi, mN_wi, mJ_wi, mI_wi, sI_wi, beq_self_eq_true, Bool.true_or, Bool.or_true, Bool.or_false, Bool.and_self, Bool.and_true, Bool.true_and, ↓reduceIte, ble_up0, i_cl, i_succ, zix_of, zfl_k, zup_k, zup_q, mK_wg, k19]
      exact ev_r
    obtain ⟨y1, y2⟩ := hd e g I (Int32.ofNat 10) u3 u4 u5 u6 hR
    by_cases h5 : iw X e 5 = 0
    · rw [if_pos h5] at hf
      by_cases h10 : iw X e 10 = 0
      · rw [if_pos h10] at hf
        by_cases h18 : iw X e 18 = 0
        · rw [if_pos h18] at hf
          subst hf
          exact ⟨g, _, y1 ⟨h5, h10, h18⟩, mTh_i, mHf_th.l⟩
        · rw [if_neg h18] at hf
          subst hf
          exact ⟨g, _, y2 (fun q => h18 q.2.2) _ h44, mTh_i, mHf_th.l⟩
      · rw [if_neg h10] at hf
        subst hf
        exact ⟨g, _, y2 (fun q => h10 q.2.1) _ h44, mTh_i, mHf_th.l⟩
    · rw [if_neg h5] at hf
      subst hf
      exact ⟨g, _, y2 (fun q => h5 q.1) _ h44, mTh_i, mHf_th.l⟩
  | succ c ih =>
    intro n hn W e g I u3 u4 u5 u6 hR hL
    have w0 := hR.1.1.1
    have k19 := hR.1.2.2
    obtain ⟨y1, y2⟩ := hd e g I (Int32.ofNat n) u3 u4 u5 u6 hR
    by_cases hh : iw X e 5 = 0 ∧ iw X e 10 = 0 ∧ iw X e 18 = 0
    · have hq : pLs X (c + 1) W n e = Sum.inl (1, kA X e) := by
        unfold pLs
        rw [pLw_h hh]
      rw [hq]
      refine ⟨fun f p h => ?_, fun W' n' h => by cases h⟩
      obtain ⟨rfl, rfl⟩ := Prod.mk.inj (Sum.inl.inj h)
      exact ⟨g, _, y1 hh, mTh_i, mHf_th.l⟩
    · have d10 : (Int32.ofNat n = 10) = False := by
        rw [show (10 : Int32) = Int32.ofNat 10 from rfl, i_eq (by omega) (by omega)]
        exact eq_false (by omega)
      have st56 : ∀ z, zAt E (d + 8) 142 56 [some (zr (some w)), some (zi (Int32.ofNat n)), some (zi 1), u3, u4, u5, u6] [] (zwi (zwg S g) I) z → zAt E (d + 8) 142 7 [some (zr (some w)), some (zi (Int32.ofNat n)), some (zi 1), u3, u4, u5, u6] [] (zwi (zwg S g) I) z := by
        intro z hz
        refine y2 hh z ?_
        refine zat_in zP_X6_readLaws zk_X6_readLaws_44 ?_
        simp (disch := omega) only [e44, zif, zdr, zkb, mK_wi, mN_wi, mJ_wi, mI_wi, sI_wi, beq_self_eq_true, Bool.true_or, Bool.or_true, Bool.or_false, Bool.and_self, Bool.and_true, Bool.true_and, ↓reduceIte, ble_up0, i_cl, i_succ, zix_of, zfl_k, zup_k, zup_q, d10]
        exact ev_bk hz
      obtain ⟨x1, x2⟩ := sp_X6_law1 (d := d) (n := Int32.ofNat n) (u3 := u3) (u4 := u4) (u5 := u5) (u6 := u6) hB hR hh
      cases q : pLw X e with
      | inl s =>
        have hq : pLs X (c + 1) W n e = Sum.inl s := by
          unfold pLs
          rw [q]
        rw [hq]
        refine ⟨fun f p h => ?_, fun W' n' h => by cases h⟩
        obtain ⟨g1, I1, a1, b1, f1⟩ := x1 f p (q.trans (congrArg Sum.inl (Sum.inl.inj h)))
        exact ⟨g1, I1, st56 _ a1, b1, f1.l⟩
      | inr s =>
        obtain ⟨t, e'⟩ := s
        obtain ⟨g1, I1, a1, R1, f1⟩ := x2 t e' q
        have e4 : (4 : Int32) * Int32.ofNat n = Int32.ofNat (4 * n) := i_mulN (a := 4)
        have e41 : Int32.ofNat (4 * n) + 1 = Int32.ofNat (4 * n + 1) := i_add (b := 1)
        have e42 : Int32.ofNat (4 * n) + 2 = Int32.ofNat (4 * n + 2) := i_add (b := 2)
        have e43 : Int32.ofNat (4 * n) + 3 = Int32.ofNat (4 * n + 3) := i_add (b := 3)
        have en : Int32.ofNat n + 1 = Int32.ofNat (n + 1) := i_succ
        have hI : ∀ a k, ¬ (a = w + 27 ∧ 4 * n ≤ k ∧ k ≤ 4 * n + 3) → (zup (zup (zup (zup I1 (w + 27) (4 * n) t.1) (w + 27) (4 * n + 1) t.2.1) (w + 27) (4 * n + 2) t.2.2.1) (w + 27) (4 * n + 3) t.2.2.2) a k = I1 a k := fun a k h => by
          rw [zup_k (by omega), zup_k (by omega), zup_k (by omega), zup_k (by omega)]
        have R2 : mRD E S g1 (zup (zup (zup (zup I1 (w + 27) (4 * n) t.1) (w + 27) (4 * n + 1) t.2.1) (w + 27) (4 * n + 2) t.2.2.1) (w + 27) (4 * n + 3) t.2.2.2) w X e' := R1.fx (fun a k h => hI a k (by omega))
        have f2 : mLf w n I (zup (zup (zup (zup I1 (w + 27) (4 * n) t.1) (w + 27) (4 * n + 1) t.2.1) (w + 27) (4 * n + 2) t.2.2.1) (w + 27) (4 * n + 3) t.2.2.2) := fun a k h1 h2 h3 => (hI a k (by omega)).trans (f1 a k h1)
        have L2 : mLT (zup (zup (zup (zup I1 (w + 27) (4 * n) t.1) (w + 27) (4 * n + 1) t.2.1) (w + 27) (4 * n + 2) t.2.2.1) (w + 27) (4 * n + 3) t.2.2.2) w (n + 1) (wL W n t) := by
          intro i hi j hj
          by_cases z : i = n
          · subst z
            unfold wL
            obtain rfl | rfl | rfl | rfl : j = 0 ∨ j = 1 ∨ j = 2 ∨ j = 3 := by omega
            · simp (disch := omega) only [zfl_k, zfl_q, zup_k, zup_q, Nat.add_zero]
            · simp (disch := omega) only [zfl_k, zfl_q, zup_k, zup_q]
            · simp (disch := omega) only [zfl_k, zfl_q, zup_k, zup_q]
            · simp (disch := omega) only [zfl_k, zfl_q, zup_k, zup_q]
          · rw [wL_k z, hI _ _ (by omega), f1 _ _ (by omega)]
            exact hL i (by omega) j hj
        have cx := sp_X6_is (E := E) (d := d + 7) (v := 59) (by decide) R2
        have st239 : ∀ z, zAt E (d + 8) 142 239 [some (zr (some w)), some (zi (Int32.ofNat n)), some (zi 1), some (zi t.1), some (zi t.2.1), some (zi t.2.2.1), some (zi t.2.2.2)] [] (zwi (zwg S g1) (zup (zup (zup (zup I1 (w + 27) (4 * n) t.1) (w + 27) (4 * n + 1) t.2.1) (w + 27) (4 * n + 2) t.2.2.1) (w + 27) (4 * n + 3) t.2.2.2)) z → zAt E (d + 8) 142 7 [some (zr (some w)), some (zi (Int32.ofNat n)), some (zi 1), u3, u4, u5, u6] [] (zwi (zwg S g) I) z := by
          intro z hz
          refine st56 _ (a1 _ ?_)
          refine zat_in zP_X6_readLaws zk_X6_readLaws_194 ?_
          simp (disch := omega) only [e194, zif, zdr, zkb, mK_wi, mN_wi, mJ_wi, mI_wi, sI_wi, beq_self_eq_true, Bool.true_or, Bool.or_true, Bool.or_false, Bool.and_self, Bool.and_true, Bool.true_and, ble_up0, i_cl, i_succ, zix_of, zfl_k, zup_k, zup_q, ↓reduceIte, w0, mK_wg, mN_wg, mJ_wg, m39, mk39, mn39, e4, e41]
          refine ev_tl zP_X6_readLaws zk_X6_readLaws_215 ?_
          refine zat_in zP_X6_readLaws zk_X6_readLaws_215 ?_
          simp (disch := omega) only [e215, zif, zdr, zkb, mK_wi, mN_wi, mJ_wi, mI_wi, sI_wi, beq_self_eq_true, Bool.true_or, Bool.or_true, Bool.or_false, Bool.and_self, Bool.and_true, Bool.true_and, ble_up0, i_cl, i_succ, zix_of, zfl_k, zup_k, zup_q, ↓reduceIte, w0, mK_wg, mN_wg, mJ_wg, m39, mk39, mn39, e4, e42, e43]
          exact ev_tl zP_X6_readLaws zk_X6_readLaws_239 hz
        by_cases c1 : tK X e' = 59
        · have hq : pLs X (c + 1) W n e = pLs X c (wL W n t) (n + 1) (tE X e') := by
            conv => lhs; unfold pLs
            rw [q]
            show (if tK X e' = 59 then _ else _) = _
            rw [if_pos c1]
          rw [hq]
          rw [isg_1 c1] at cx
          obtain ⟨g3, I3, a3, R3, f3⟩ := R2.nx (d := d + 6) hB (by rw [c1]; decide)
          have L3 : mLT I3 w (n + 1) (wL W n t) := fun i hi j hj => (f3 _ _ (by omega)).trans (L2 i hi j hj)
          obtain ⟨z1, z2⟩ := ih (n + 1) (by omega) (wL W n t) (tE X e') g3 I3 (some (zi t.1)) (some (zi t.2.1)) (some (zi t.2.2.1)) (some (zi t.2.2.2)) R3 L3
          have st7 : ∀ z, zAt E (d + 8) 142 7 [some (zr (some w)), some (zi (Int32.ofNat (n + 1))), some (zi 1), some (zi t.1), some (zi t.2.1), some (zi t.2.2.1), some (zi t.2.2.2)] [] (zwi (zwg S g3) I3) z → zAt E (d + 8) 142 7 [some (zr (some w)), some (zi (Int32.ofNat n)), some (zi 1), u3, u4, u5, u6] [] (zwi (zwg S g) I) z := by
            intro z hz
            refine st239 z ?_
            refine zat_in zP_X6_readLaws zk_X6_readLaws_239 ?_
            simp (disch := omega) only [e239, zif, zdr, zkb, mK_wi, mN_wi, mJ_wi, mI_wi, sI_wi, beq_self_eq_true, Bool.true_or, Bool.or_true, Bool.or_false, Bool.and_self, Bool.and_true, Bool.true_and, ↓reduceIte, ble_up0, i_cl, i_succ, zix_of, zfl_k, zup_k, zup_q, w0, mK_wg]
            refine ev_ci cx ?_
            refine ev_th _ (fun h => absurd h (by decide)) (fun _ => ?_)
            try simp (disch := omega) only [zif, zdr, zkb, mK_wi, mN_wi, mJ_wi, mI_wi, sI_wi, beq_self_eq_true, Bool.true_or, Bool.or_true, Bool.or_false, Bool.and_self, Bool.and_true, Bool.true_and, ↓reduceIte, ble_up0, i_cl, i_succ, zix_of, zfl_k, zup_k, zup_q, w0, mK_wg]
            refine ev_cv a3 ?_
            refine ev_tl zP_X6_readLaws zk_X6_readLaws_257 ?_
            refine zat_in zP_X6_readLaws zk_X6_readLaws_257 ?_
            simp only [e257]
            exact ev_bk hz
          have fB := f2.tr (f3.h.l)
          refine ⟨fun f p h => ?_, fun W' n' h => ?_⟩
          · obtain ⟨g4, I4, a4, b4, f4⟩ := z1 f p h
            exact ⟨g4, I4, st7 _ a4, b4, fB.tr (f4.up (by omega))⟩
          · obtain ⟨g4, I4, a4, b4, f4⟩ := z2 W' n' h
            exact ⟨g4, I4, st7 _ a4, b4, fB.tr (f4.up (by omega))⟩
        · rw [isg_0 c1] at cx
          have e26 := R1.2.2.1.2.2.1
          have st260 : ∀ z, zAt E (d + 8) 142 260 [some (zr (some w)), some (zi (Int32.ofNat (n + 1))), some (zi 0), some (zi t.1), some (zi t.2.1), some (zi t.2.2.1), some (zi t.2.2.2)] [] (zwi (zwg S g1) (zup (zup (zup (zup I1 (w + 27) (4 * n) t.1) (w + 27) (4 * n + 1) t.2.1) (w + 27) (4 * n + 2) t.2.2.1) (w + 27) (4 * n + 3) t.2.2.2)) z → zAt E (d + 8) 142 7 [some (zr (some w)), some (zi (Int32.ofNat n)), some (zi 1), u3, u4, u5, u6] [] (zwi (zwg S g) I) z := by
            intro z hz
            refine st239 z ?_
            refine zat_in zP_X6_readLaws zk_X6_readLaws_239 ?_
            simp (disch := omega) only [e239, zif, zdr, zkb, mK_wi, mN_wi, mJ_wi, mI_wi, sI_wi, beq_self_eq_true, Bool.true_or, Bool.or_true, Bool.or_false, Bool.and_self, Bool.and_true, Bool.true_and, ↓reduceIte, ble_up0, i_cl, i_succ, zix_of, zfl_k, zup_k, zup_q, w0, mK_wg]
            refine ev_ci cx ?_
            refine ev_th _ (fun _ => ?_) (fun h => (h (by first | rfl | trivial)).elim)
            refine ev_bk ?_
            refine zat_in zP_X6_readLaws zk_X6_readLaws_257 ?_
            simp only [e257]
            refine ev_bk ?_
            refine zat_in zP_X6_readLaws zk_X6_readLaws_7 ?_
            simp only [e7]
            exact ev_th _ (fun _ => ev_bk hz) (fun h => (h (by first | rfl | trivial)).elim)
          by_cases c2 : tK X e' = 0
          · have hq : pLs X (c + 1) W n e = Sum.inr (wL W n t, n + 1) := by
              unfold pLs
              rw [q]
              show (if tK X e' = 59 then _ else if tK X e' = 0 then _ else _) = _
              rw [if_neg c1, if_pos c2]
            rw [hq]
            refine ⟨fun f p h => (by cases h), fun W' n' h => ?_⟩
            obtain ⟨rfl, rfl⟩ := Prod.mk.inj (Sum.inr.inj h)
            refine ⟨g1, _, st260 _ ?_, L2, f2⟩
            have d2 := eq_true c2
            refine zat_in zP_X6_readLaws zk_X6_readLaws_260 ?_
            simp (disch := omega) only [e260, zif, zdr, zkb, mK_wi, mN_wi, mJ_wi, mI_wi, sI_wi, beq_self_eq_true, Bool.true_or, Bool.or_true, Bool.or_false, Bool.and_self, Bool.and_true, Bool.true_and, ↓reduceIte, ble_up0, i_cl, i_succ, zix_of, zfl_k, zup_k, zup_q, w0, mK_wg, e26, mso_1, d2]
            refine ev_bk ?_
            refine zat_in zP_X6_readLaws zk_X6_readLaws_274 ?_
            simp only [e274]
            exact ev_r
          · have hq : pLs X (c + 1) W n e = Sum.inl (1, kA X e') := by
              unfold pLs
              rw [q]
              show (if tK X e' = 59 then _ else if tK X e' = 0 then _ else _) = _
              rw [if_neg c1, if_neg c2]
            rw [hq]
            refine ⟨fun f p h => ?_, fun W' n' h => by cases h⟩
            obtain ⟨rfl, rfl⟩ := Prod.mk.inj (Sum.inl.inj h)
            have cs := sp_X6_stop (E := E) (d := d + 7) (f := 1) hB R2
            refine ⟨g1, _, st260 _ ?_, mTh_i, f2.tr mHf_th.l⟩
            have d2 := eq_false c2
            refine zat_in zP_X6_readLaws zk_X6_readLaws_260 ?_
            simp (disch := omega) only [e260, zif, zdr, zkb, mK_wi, mN_wi, mJ_wi, mI_wi, sI_wi, beq_self_eq_true, Bool.true_or, Bool.or_true, Bool.or_false, Bool.and_self, Bool.and_true, Bool.true_and, ↓reduceIte, ble_up0, i_cl, i_succ, zix_of, zfl_k, zup_k, zup_q, w0, mK_wg, e26, mso_1, d2]
            refine ev_cr cs ?_
            try simp (disch := omega) only [zif, zdr, zkb, mK_wi, mN_wi, mJ_wi, mI_wi, sI_wi, beq_self_eq_true, Bool.true_or, Bool.or_true, Bool.or_false, Bool.and_self, Bool.and_true, Bool.true_and, ↓reduceIte, ble_up0, i_cl, i_succ, zix_of, zfl_k, zup_k, zup_q, mK_wg, k19]
            exact ev_r
end
