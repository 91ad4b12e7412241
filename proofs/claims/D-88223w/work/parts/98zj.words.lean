/-! ===== words against the texts; reading by the class ===== -/
set_option maxRecDepth 100000
def iw (X : zTx) (e i : Nat) : Int32 := if tK X e = 2 ∧ tV X e = val i then 1 else 0
/-- the texts in the memory -/
def xTX (E : zE) (S : zM) (I : Nat → Nat → Int32) (B : Nat) : Prop := ∀ i, i < 47 → ∃ tb, E.2.1 i < B ∧ tb < B ∧ xTx S I (E.2.1 i) tb (zwc i) (zwl i)
/-- a memory in which the class reads: the current token is the one from e on -/
def xRD (E : zE) (S : zM) (I : Nat → Nat → Int32) (B : Nat) (X : zTx) (e : Nat) : Prop := xRS S B ∧ xTX E S I B ∧ xTk S I B X e ∧ B + 466 ≤ mS S ∧ (∀ a, mS S ≤ a → mK S a = 0) ∧ e ≤ X.2
def xTh (I : Nat → Nat → Int32) (B : Nat) (f : Int32) (p : Nat) : Prop := I (B + 3) 6 = 4 ∧ I (B + 3) 7 = f ∧ I (B + 3) 8 = Int32.ofNat p
theorem iw_b {X : zTx} {e i : Nat} : iw X e i = 0 ∨ iw X e i = 1 := by
  unfold iw
  split
  · exact Or.inr rfl
  · exact Or.inl rfl
theorem iw_1 {X : zTx} {e i : Nat} (h : isw X e i) : iw X e i = 1 := if_pos h
theorem iw_0 {X : zTx} {e i : Nat} (h : ¬ isw X e i) : iw X e i = 0 := if_neg h
theorem xTX.fr {E : zE} {B m c u : Nat} {S S' : zM} {I I' : Nat → Nat → Int32} (h : xTX E S I B) (hf : rFr B m c u S S' I I') (hm : B + 466 ≤ m) : xTX E S' I' B := fun i hi => by
  obtain ⟨-, f1, f2, f3, -⟩ := hf
  obtain ⟨tb, h1, h2, h3, h4, h5, h6, h7, h8⟩ := h i hi
  exact ⟨tb, h1, h2, (f1 _ (by omega)).1.trans h3, (f2 _ _ (by omega) (by omega)).trans h4, (f3 _ _ (by omega) (by omega) (fun _ => h1)).trans h5, (f1 _ (by omega)).1.trans h6, (f1 _ (by omega)).2.trans h7, fun j hj => (f3 _ _ (by omega) (by omega) (fun _ => h2)).trans (h8 j hj)⟩
section
variable {E : zE} {d B e i : Nat} {S : zM} {I I' : Nat → Nat → Int32} {X : zTx} {v : Int32}
/-- a word against a text -/
theorem xTX.eq {s sb l : Nat} {f : Nat → Int32} (hT : xTX E S I B) (hi : i < 47) (hs : B ≤ s) (hw : xTx S I s sb f l) (hl : l < 65536) (hv : (v = 1 ∧ l = zwl i ∧ ∀ j, j < l → f j = zwc i j) ∨ (v = 0 ∧ ¬ (l = zwl i ∧ ∀ j, j < l → f j = zwc i j))) : zCl E (d + 1) 9 [zr (some s), zr (some (E.2.1 i))] (zwi S I) (Sum.inl (some (zi v)), zwi S I) := by
  obtain ⟨tb, h1, h2, h3⟩ := hT i hi
  have := zw_8 i hi
  exact sp_J3_equals hw h3 (by omega) hl (by omega) hv
theorem xRD.eq {s : Nat} (hR : xRD E S I B X e) (hk : tK X e = 2) (hi : i < 47) (hs : mJ S (B + 2) 8 = some s) : zCl E (d + 1) 9 [zr (some s), zr (some (E.2.1 i))] (zwi S I) (Sum.inl (some (zi (if tV X e = val i then 1 else 0))), zwi S I) := by
  obtain ⟨s', sb, w1, w2, w3, w4, w5, w6⟩ := hR.2.2.1.2.2.2.2.2 hk
  obtain rfl : s = s' := Option.some.inj (hs.symm.trans w1)
  have l8 := (tL_8 hk).1
  refine hR.2.1.eq hi (by omega) w5 (by omega) ?_
  by_cases c : tV X e = val i
  · exact Or.inl ⟨if_pos c, (isw_i hk hi).1 c⟩
  · exact Or.inr ⟨if_neg c, fun q => c ((isw_i hk hi).2 q)⟩
theorem xRD.hs {s sb : Nat} (hR : xRD E S I B X e) (w1 : mJ S (B + 2) 8 = some s) (w2 : B + 466 ≤ s) (w3 : s < sb) (w4 : sb < mS S) (x1 : xTx S I' s sb (tW X e) (tL X e)) (h1 : xHs I' s (tW X e) (tL X e)) (f1 : ∀ a k, a ≠ s → I' a k = I a k) : xRD E S I' B X e := by
  obtain ⟨r1, r2, ⟨⟨⟨r3, r4⟩, r5⟩, r6, r7, r8, r9, r10⟩, r11, r12, r13⟩ := hR
  refine ⟨r1, fun i hi => ?_, ⟨⟨⟨(f1 _ _ (by omega)).trans r3, fun j hj => (f1 _ _ (by omega)).trans (r4 j hj)⟩, r5⟩, (f1 _ _ (by omega)).trans r6, (f1 _ _ (by omega)).trans r7, (f1 _ _ (by omega)).trans r8, fun q => (f1 _ _ (by omega)).trans (r9 q), fun _ => ⟨s, sb, w1, w2, w3, w4, x1, h1⟩⟩, r11, r12, r13⟩
  obtain ⟨tb, t1, t2, t3, t4, t5, t6, t7, t8⟩ := r2 i hi
  exact ⟨tb, t1, t2, t3, t4, (f1 _ _ (by omega)).trans t5, t6, t7, fun j hj => (f1 _ _ (by omega)).trans (t8 j hj)⟩
/-- the next token -/
theorem xRD.nx (hB : E.1 ≤ B) (hR : xRD E S I B X e) : ∃ S' I', zCl E (d + 4) 73 [zr (some (B + 2))] (zwi S I) (Sum.inl none, zwi S' I') ∧ xRD E S' I' B X (tE X e) ∧ rFr B (mS S) 2 12 S S' I I' := by
  obtain ⟨r1, r2, r3, r11, r12, r13⟩ := hR
  obtain ⟨S1, I1, a1, b1, f1⟩ := sp_X1_next (E := E) (d := d) hB r1 r11 r12 r3.1.2 r3.1.1 r3.2.1 (tE_le r13).2
  exact ⟨S1, I1, a1, ⟨r1.fr f1 r11, r2.fr f1 r11, b1, by have := f1.1.1; omega, f1.2.2.2.2, (tE_le r13).2⟩, f1⟩
theorem sp_X1_isWord (hR : xRD E S I B X e) (hi : i < 47) : zCl E (d + 2) 77 [zr (some (B + 2)), zr (some (E.2.1 i))] (zwi S I) (Sum.inl (some (zi (iw X e i))), zwi S I) := by
  have bk2 := hR.1.2.1
  have e5 := hR.2.2.1.2.2.1
  have e23 := @b_X1_isWord_23
  have g24 : ∀ v : Int32, v = 0 ∨ v = 1 → zAt E (d + 2) 77 24 [some (zr (some (B + 2))), some (zr (some (E.2.1 i)))] [zi v] (zwi S I) (Sum.inl (some (zi v)), zwi S I) := by
    intro v hv
    refine zat_in zP_X1_isWord zk_X1_isWord_24 ?_; simp (disch := omega) only [b_X1_isWord_24, zif, zdr, zkb, mK_wi, mN_wi, mJ_wi, mI_wi, sI_wi, beq_self_eq_true, Bool.true_or, Bool.or_true, Bool.or_false, Bool.and_self, Bool.and_true, Bool.true_and, ↓reduceIte, z01 hv]
    exact ev_r
  have g23 : zAt E (d + 2) 77 23 [some (zr (some (B + 2))), some (zr (some (E.2.1 i)))] [] (zwi S I) (Sum.inl (some (zi 0)), zwi S I) := by
    refine zat_in zP_X1_isWord zk_X1_isWord_23 ?_
    simp only [e23]
    exact ev_tl zP_X1_isWord zk_X1_isWord_24 (g24 0 (Or.inl rfl))
  unfold iw
  refine zcl_in' zP_X1_isWord ?_; rw [zn_2_2]
  by_cases hk : tK X e = 2
  · obtain ⟨s, sb, w1, w2, w3, w4, w5, w6⟩ := hR.2.2.1.2.2.2.2.2 hk
    have wk : mK S s = 17 := w5.1
    have ce := hR.eq (d := d) hk hi w1
    have d1 := eq_true hk
    by_cases c : tV X e = val i
    · rw [if_pos ⟨hk, c⟩]
      rw [if_pos c] at ce
      refine zat_in zP_X1_isWord zk_X1_isWord_0 ?_
      simp (disch := omega) only [b_X1_isWord_0, zif, zdr, zkb, mK_wi, mN_wi, mJ_wi, mI_wi, sI_wi, beq_self_eq_true, Bool.true_or, Bool.or_true, Bool.or_false, Bool.and_self, Bool.and_true, Bool.true_and, ↓reduceIte, ble_up0, i_cl, i_succ, zix_of, zfl_k, zup_k, zup_q, bk2, e5, d1, w1, wk]
      refine ev_ci ce ?_
      try simp (disch := omega) only [zif, zdr, zkb, mK_wi, mN_wi, mJ_wi, mI_wi, sI_wi, beq_self_eq_true, Bool.true_or, Bool.or_true, Bool.or_false, Bool.and_self, Bool.and_true, Bool.true_and, ↓reduceIte, ble_up0, i_cl, i_succ, zix_of, zfl_k, zup_k, zup_q, i10]
      exact ev_bk (g24 1 (Or.inr rfl))
    · rw [if_neg (fun q => c q.2)]
      rw [if_neg c] at ce
      refine zat_in zP_X1_isWord zk_X1_isWord_0 ?_
      simp (disch := omega) only [b_X1_isWord_0, zif, zdr, zkb, mK_wi, mN_wi, mJ_wi, mI_wi, sI_wi, beq_self_eq_true, Bool.true_or, Bool.or_true, Bool.or_false, Bool.and_self, Bool.and_true, Bool.true_and, ↓reduceIte, ble_up0, i_cl, i_succ, zix_of, zfl_k, zup_k, zup_q, bk2, e5, d1, w1, wk]
      refine ev_ci ce ?_
      try simp (disch := omega) only [zif, zdr, zkb, mK_wi, mN_wi, mJ_wi, mI_wi, sI_wi, beq_self_eq_true, Bool.true_or, Bool.or_true, Bool.or_false, Bool.and_self, Bool.and_true, Bool.true_and, ↓reduceIte, ble_up0, i_cl, i_succ, zix_of, zfl_k, zup_k, zup_q]
      exact ev_bk g23
  · rw [if_neg (fun q => hk q.1)]
    have d1 := eq_false hk
    refine zat_in zP_X1_isWord zk_X1_isWord_0 ?_
    simp (disch := omega) only [b_X1_isWord_0, zif, zdr, zkb, mK_wi, mN_wi, mJ_wi, mI_wi, sI_wi, beq_self_eq_true, Bool.true_or, Bool.or_true, Bool.or_false, Bool.and_self, Bool.and_true, Bool.true_and, ↓reduceIte, ble_up0, i_cl, i_succ, zix_of, zfl_k, zup_k, zup_q, bk2, e5, d1]
    exact ev_bk g23
theorem sp_X1_takes_0 (hR : xRD E S I B X e) (hi : i < 47) (h : ¬ isw X e i) : zCl E (d + 3) 79 [zr (some (B + 2)), zr (some (E.2.1 i))] (zwi S I) (Sum.inl (some (zi 0)), zwi S I) := by
  have cw := sp_X1_isWord (E := E) (d := d) hR hi
  rw [iw_0 h] at cw
  have bk2 := hR.1.2.1
  refine zcl_in' zP_X1_takes ?_; rw [zn_2_2]
  refine zat_in zP_X1_takes zk_X1_takes_0 ?_
  simp (disch := omega) only [b_X1_takes_0, zif, zdr, zkb, mK_wi, mN_wi, mJ_wi, mI_wi, sI_wi, beq_self_eq_true, Bool.true_or, Bool.or_true, Bool.or_false, Bool.and_self, Bool.and_true, Bool.true_and, ↓reduceIte, ble_up0, i_cl, i_succ, zix_of, zfl_k, zup_k, zup_q, bk2]
  refine ev_ci cw ?_
  try simp (disch := omega) only [zif, zdr, zkb, mK_wi, mN_wi, mJ_wi, mI_wi, sI_wi, beq_self_eq_true, Bool.true_or, Bool.or_true, Bool.or_false, Bool.and_self, Bool.and_true, Bool.true_and, ↓reduceIte, ble_up0, i_cl, i_succ, zix_of, zfl_k, zup_k, zup_q]
  exact ev_r
theorem sp_X1_takes_1 (hB : E.1 ≤ B) (hR : xRD E S I B X e) (hi : i < 47) (h : isw X e i) : ∃ S' I', zCl E (d + 5) 79 [zr (some (B + 2)), zr (some (E.2.1 i))] (zwi S I) (Sum.inl (some (zi 1)), zwi S' I') ∧ xRD E S' I' B X (tE X e) ∧ rFr B (mS S) 2 12 S S' I I' := by
  have cw := sp_X1_isWord (E := E) (d := d + 2) hR hi
  rw [iw_1 h] at cw
  have bk2 := hR.1.2.1
  obtain ⟨S1, I1, a1, b1, f1⟩ := hR.nx (d := d) hB
  refine ⟨S1, I1, ?_, b1, f1⟩
  refine zcl_in' zP_X1_takes ?_; rw [zn_2_2]
  refine zat_in zP_X1_takes zk_X1_takes_0 ?_
  simp (disch := omega) only [b_X1_takes_0, zif, zdr, zkb, mK_wi, mN_wi, mJ_wi, mI_wi, sI_wi, beq_self_eq_true, Bool.true_or, Bool.or_true, Bool.or_false, Bool.and_self, Bool.and_true, Bool.true_and, ↓reduceIte, ble_up0, i_cl, i_succ, zix_of, zfl_k, zup_k, zup_q, bk2]
  refine ev_ci cw ?_
  try simp (disch := omega) only [zif, zdr, zkb, mK_wi, mN_wi, mJ_wi, mI_wi, sI_wi, beq_self_eq_true, Bool.true_or, Bool.or_true, Bool.or_false, Bool.and_self, Bool.and_true, Bool.true_and, ↓reduceIte, ble_up0, i_cl, i_succ, zix_of, zfl_k, zup_k, zup_q, i10]
  refine ev_bk ?_
  refine zat_in zP_X1_takes zk_X1_takes_10 ?_
  simp (disch := omega) only [b_X1_takes_10, zif, zdr, zkb, mK_wi, mN_wi, mJ_wi, mI_wi, sI_wi, beq_self_eq_true, Bool.true_or, Bool.or_true, Bool.or_false, Bool.and_self, Bool.and_true, Bool.true_and, ↓reduceIte, ble_up0, i_cl, i_succ, zix_of, zfl_k, zup_k, zup_q, bk2]
  refine ev_cv a1 ?_
  try simp (disch := omega) only [zif, zdr, zkb, mK_wi, mN_wi, mJ_wi, mI_wi, sI_wi, beq_self_eq_true, Bool.true_or, Bool.or_true, Bool.or_false, Bool.and_self, Bool.and_true, Bool.true_and, ↓reduceIte, ble_up0, i_cl, i_succ, zix_of, zfl_k, zup_k, zup_q]
  exact ev_r
theorem sp_X1_sign_0 (hR : xRD E S I B X e) (h : tK X e ≠ v) : zCl E (d + 1) 80 [zr (some (B + 2)), zi v] (zwi S I) (Sum.inl (some (zi 0)), zwi S I) := by
  have bk2 := hR.1.2.1
  have e5 := hR.2.2.1.2.2.1
  have d1 := eq_false h
  refine zcl_in' zP_X1_takes_2 ?_; rw [zn_2_2]
  refine zat_in zP_X1_takes_2 zk_X1_takes_2_0 ?_
  simp (disch := omega) only [b_X1_takes_2_0, zif, zdr, zkb, mK_wi, mN_wi, mJ_wi, mI_wi, sI_wi, beq_self_eq_true, Bool.true_or, Bool.or_true, Bool.or_false, Bool.and_self, Bool.and_true, Bool.true_and, ↓reduceIte, ble_up0, i_cl, i_succ, zix_of, zfl_k, zup_k, zup_q, bk2, e5, d1]
  exact ev_r
theorem sp_X1_sign_1 (hB : E.1 ≤ B) (hR : xRD E S I B X e) (h : tK X e = v) : ∃ S' I', zCl E (d + 5) 80 [zr (some (B + 2)), zi v] (zwi S I) (Sum.inl (some (zi 1)), zwi S' I') ∧ xRD E S' I' B X (tE X e) ∧ rFr B (mS S) 2 12 S S' I I' := by
  have bk2 := hR.1.2.1
  have e5 := hR.2.2.1.2.2.1
  have d1 := eq_true h
  obtain ⟨S1, I1, a1, b1, f1⟩ := hR.nx (d := d) hB
  refine ⟨S1, I1, ?_, b1, f1⟩
  refine zcl_in' zP_X1_takes_2 ?_; rw [zn_2_2]
  refine zat_in zP_X1_takes_2 zk_X1_takes_2_0 ?_
  simp (disch := omega) only [b_X1_takes_2_0, zif, zdr, zkb, mK_wi, mN_wi, mJ_wi, mI_wi, sI_wi, beq_self_eq_true, Bool.true_or, Bool.or_true, Bool.or_false, Bool.and_self, Bool.and_true, Bool.true_and, ↓reduceIte, ble_up0, i_cl, i_succ, zix_of, zfl_k, zup_k, zup_q, bk2, e5, d1]
  refine ev_bk ?_
  refine zat_in zP_X1_takes_2 zk_X1_takes_2_10 ?_
  simp (disch := omega) only [b_X1_takes_2_10, zif, zdr, zkb, mK_wi, mN_wi, mJ_wi, mI_wi, sI_wi, beq_self_eq_true, Bool.true_or, Bool.or_true, Bool.or_false, Bool.and_self, Bool.and_true, Bool.true_and, ↓reduceIte, ble_up0, i_cl, i_succ, zix_of, zfl_k, zup_k, zup_q, bk2]
  refine ev_cv a1 ?_
  try simp (disch := omega) only [zif, zdr, zkb, mK_wi, mN_wi, mJ_wi, mI_wi, sI_wi, beq_self_eq_true, Bool.true_or, Bool.or_true, Bool.or_false, Bool.and_self, Bool.and_true, Bool.true_and, ↓reduceIte, ble_up0, i_cl, i_succ, zix_of, zfl_k, zup_k, zup_q]
  exact ev_r
/-- what is wrong is thrown -/
theorem sp_X1_fail {f : Int32} (hB : E.1 ≤ B) (hR : xRD E S I B X e) : ∃ I', zCl E (d + 2) 78 [zr (some (B + 2)), zi f] (zwi S I) (Sum.inl (some (zr (some (B + 3)))), zwi S I') ∧ xTh I' B f (kA X e) ∧ rFr B (mS S) 0 0 S S I I' := by
  obtain ⟨-, bk2, ⟨br0, brk0⟩, -⟩ := hR.1
  have e6 := hR.2.2.1.2.2.2.1
  refine ⟨zup (zup (zup (zup (zup I (B + 3) 6 4) (B + 3) 7 0) (B + 3) 8 (-1)) (B + 3) 7 f) (B + 3) 8 (Int32.ofNat (kA X e)), ?_, ⟨?_, ?_, zup_q _ _ _ _⟩, ⟨Nat.le_refl _, by omega, by omega⟩, fun _ _ => ⟨rfl, rfl⟩, fun _ _ _ _ => rfl, fun a k _ q _ => ?_, hR.2.2.2.2.1⟩
  · have cb : zCl E d 85 [zr (some (B + 3)), zi 4] (zwi S I) (Sum.inl (some (zr (some (B + 3)))), zwi S (zup (zup (zup I (B + 3) 6 4) (B + 3) 7 0) (B + 3) 8 (-1))) := by
      refine zcl_in' zP_X2_by ?_; rw [zn_2_2]
      refine zat_in zP_X2_by zk_X2_by_0 ?_
      simp (disch := omega) only [b_X2_by_0, zif, zdr, zkb, mK_wi, mN_wi, mJ_wi, mI_wi, sI_wi, beq_self_eq_true, Bool.true_or, Bool.or_true, Bool.or_false, Bool.and_self, Bool.and_true, Bool.true_and, ↓reduceIte, ble_up0, i_cl, i_succ, zix_of, zfl_k, zup_k, zup_q, brk0]
      exact ev_r
    have ca : zCl E (d + 1) 86 [zr (some (B + 3)), zi f, zi (Int32.ofNat (kA X e))] (zwi S I) (Sum.inl (some (zr (some (B + 3)))), zwi S (zup (zup (zup (zup (zup I (B + 3) 6 4) (B + 3) 7 0) (B + 3) 8 (-1)) (B + 3) 7 f) (B + 3) 8 (Int32.ofNat (kA X e)))) := by
      refine zcl_in' zP_X2_at ?_; rw [zn_3_3]
      refine zat_in zP_X2_at zk_X2_at_0 ?_
      simp (disch := omega) only [b_X2_at_0, zif, zdr, zkb, mK_wi, mN_wi, mJ_wi, mI_wi, sI_wi, beq_self_eq_true, Bool.true_or, Bool.or_true, Bool.or_false, Bool.and_self, Bool.and_true, Bool.true_and, ↓reduceIte, ble_up0, i_cl, i_succ, zix_of, zfl_k, zup_k, zup_q, brk0]
      refine ev_cr cb ?_
      try simp (disch := omega) only [zif, zdr, zkb, mK_wi, mN_wi, mJ_wi, mI_wi, sI_wi, beq_self_eq_true, Bool.true_or, Bool.or_true, Bool.or_false, Bool.and_self, Bool.and_true, Bool.true_and, ↓reduceIte, ble_up0, i_cl, i_succ, zix_of, zfl_k, zup_k, zup_q, brk0]
      exact ev_r
    refine zcl_in' zP_X1_fail ?_; rw [zn_2_2]
    refine zat_in zP_X1_fail zk_X1_fail_0 ?_
    simp (disch := omega) only [b_X1_fail_0, zif, zdr, zkb, mK_wi, mN_wi, mJ_wi, mI_wi, sI_wi, beq_self_eq_true, Bool.true_or, Bool.or_true, Bool.or_false, Bool.and_self, Bool.and_true, Bool.true_and, ↓reduceIte, ble_up0, i_cl, i_succ, zix_of, zfl_k, zup_k, zup_q, bk2, br0, brk0, e6]
    refine ev_cr ca ?_
    try simp (disch := omega) only [zif, zdr, zkb, mK_wi, mN_wi, mJ_wi, mI_wi, sI_wi, beq_self_eq_true, Bool.true_or, Bool.or_true, Bool.or_false, Bool.and_self, Bool.and_true, Bool.true_and, ↓reduceIte, ble_up0, i_cl, i_succ, zix_of, zfl_k, zup_k, zup_q, brk0]
    exact ev_r
  · simp (disch := omega) only [zfl_k, zfl_q, zup_k, zup_q]
  · simp (disch := omega) only [zfl_k, zfl_q, zup_k, zup_q]
  · simp (disch := omega) only [zfl_k, zfl_q, zup_k, zup_q]
theorem sp_X1_number_1 (hB : E.1 ≤ B) (hR : xRD E S I B X e) (h : tK X e = 3) : ∃ S' I', zCl E (d + 5) 81 [zr (some (B + 2))] (zwi S I) (Sum.inl (some (zi (tN X e))), zwi S' I') ∧ xRD E S' I' B X (tE X e) ∧ rFr B (mS S) 2 12 S S' I I' := by
  have bk2 := hR.1.2.1
  have e5 := hR.2.2.1.2.2.1
  have e7 := hR.2.2.1.2.2.2.2.1 h
  have d1 := eq_true h
  obtain ⟨S1, I1, a1, b1, f1⟩ := hR.nx (d := d) hB
  refine ⟨S1, I1, ?_, b1, f1⟩
  refine zcl_in' zP_X1_number ?_; rw [zn_1_2]
  refine zat_in zP_X1_number zk_X1_number_0 ?_
  simp (disch := omega) only [b_X1_number_0, zif, zdr, zkb, mK_wi, mN_wi, mJ_wi, mI_wi, sI_wi, beq_self_eq_true, Bool.true_or, Bool.or_true, Bool.or_false, Bool.and_self, Bool.and_true, Bool.true_and, ↓reduceIte, ble_up0, i_cl, i_succ, zix_of, zfl_k, zup_k, zup_q, bk2, e5, d1]
  refine ev_bk ?_
  refine zat_in zP_X1_number zk_X1_number_14 ?_
  simp (disch := omega) only [b_X1_number_14, zif, zdr, zkb, mK_wi, mN_wi, mJ_wi, mI_wi, sI_wi, beq_self_eq_true, Bool.true_or, Bool.or_true, Bool.or_false, Bool.and_self, Bool.and_true, Bool.true_and, ↓reduceIte, ble_up0, i_cl, i_succ, zix_of, zfl_k, zup_k, zup_q, bk2, e7]
  refine ev_cv a1 ?_
  exact ev_r
theorem sp_X1_number_0 (hB : E.1 ≤ B) (hR : xRD E S I B X e) (h : tK X e ≠ 3) : ∃ I', zCl E (d + 3) 81 [zr (some (B + 2))] (zwi S I) (Sum.inr (B + 3), zwi S I') ∧ xTh I' B 1 (kA X e) ∧ rFr B (mS S) 0 0 S S I I' := by
  have bk2 := hR.1.2.1
  have brk0 := hR.1.2.2.1.2
  have e5 := hR.2.2.1.2.2.1
  have d1 := eq_false h
  obtain ⟨I1, a1, b1, f1⟩ := sp_X1_fail (E := E) (d := d) (f := 1) hB hR
  refine ⟨I1, ?_, b1, f1⟩
  refine zcl_in' zP_X1_number ?_; rw [zn_1_2]
  refine zat_in zP_X1_number zk_X1_number_0 ?_
  simp (disch := omega) only [b_X1_number_0, zif, zdr, zkb, mK_wi, mN_wi, mJ_wi, mI_wi, sI_wi, beq_self_eq_true, Bool.true_or, Bool.or_true, Bool.or_false, Bool.and_self, Bool.and_true, Bool.true_and, ↓reduceIte, ble_up0, i_cl, i_succ, zix_of, zfl_k, zup_k, zup_q, bk2, e5, d1]
  refine ev_cr a1 ?_
  try simp (disch := omega) only [zif, zdr, zkb, mK_wi, mN_wi, mJ_wi, mI_wi, sI_wi, beq_self_eq_true, Bool.true_or, Bool.or_true, Bool.or_false, Bool.and_self, Bool.and_true, Bool.true_and, ↓reduceIte, ble_up0, i_cl, i_succ, zix_of, zfl_k, zup_k, zup_q, brk0]
  exact ev_r
theorem sp_X1_mustEnd_1 (hR : xRD E S I B X e) (h : tK X e = 0) : zCl E d 82 [zr (some (B + 2))] (zwi S I) (Sum.inl none, zwi S I) := by
  have bk2 := hR.1.2.1
  have e5 := hR.2.2.1.2.2.1
  have d1 := eq_true h
  refine zcl_in' zP_X1_mustEnd ?_; rw [zn_1_1]
  refine zat_in zP_X1_mustEnd zk_X1_mustEnd_0 ?_
  simp (disch := omega) only [b_X1_mustEnd_0, zif, zdr, zkb, mK_wi, mN_wi, mJ_wi, mI_wi, sI_wi, beq_self_eq_true, Bool.true_or, Bool.or_true, Bool.or_false, Bool.and_self, Bool.and_true, Bool.true_and, ↓reduceIte, ble_up0, i_cl, i_succ, zix_of, zfl_k, zup_k, zup_q, bk2, e5, d1]
  refine ev_bk ?_
  refine zat_in zP_X1_mustEnd zk_X1_mustEnd_13 ?_; simp (disch := omega) only [b_X1_mustEnd_13, zif, zdr, zkb, mK_wi, mN_wi, mJ_wi, mI_wi, sI_wi, beq_self_eq_true, Bool.true_or, Bool.or_true, Bool.or_false, Bool.and_self, Bool.and_true, Bool.true_and, ↓reduceIte]
  exact ev_r
theorem sp_X1_mustEnd_0 (hB : E.1 ≤ B) (hR : xRD E S I B X e) (h : tK X e ≠ 0) : ∃ I', zCl E (d + 3) 82 [zr (some (B + 2))] (zwi S I) (Sum.inr (B + 3), zwi S I') ∧ xTh I' B 1 (kA X e) ∧ rFr B (mS S) 0 0 S S I I' := by
  have bk2 := hR.1.2.1
  have brk0 := hR.1.2.2.1.2
  have e5 := hR.2.2.1.2.2.1
  have d1 := eq_false h
  obtain ⟨I1, a1, b1, f1⟩ := sp_X1_fail (E := E) (d := d) (f := 1) hB hR
  refine ⟨I1, ?_, b1, f1⟩
  refine zcl_in' zP_X1_mustEnd ?_; rw [zn_1_1]
  refine zat_in zP_X1_mustEnd zk_X1_mustEnd_0 ?_
  simp (disch := omega) only [b_X1_mustEnd_0, zif, zdr, zkb, mK_wi, mN_wi, mJ_wi, mI_wi, sI_wi, beq_self_eq_true, Bool.true_or, Bool.or_true, Bool.or_false, Bool.and_self, Bool.and_true, Bool.true_and, ↓reduceIte, ble_up0, i_cl, i_succ, zix_of, zfl_k, zup_k, zup_q, bk2, e5, d1]
  refine ev_cr a1 ?_
  try simp (disch := omega) only [zif, zdr, zkb, mK_wi, mN_wi, mJ_wi, mI_wi, sI_wi, beq_self_eq_true, Bool.true_or, Bool.or_true, Bool.or_false, Bool.and_self, Bool.and_true, Bool.true_and, ↓reduceIte, ble_up0, i_cl, i_succ, zix_of, zfl_k, zup_k, zup_q, brk0]
  exact ev_r
theorem sp_X1_must_1 (hB : E.1 ≤ B) (hR : xRD E S I B X e) (hi : i < 47) (h : isw X e i) : ∃ S' I', zCl E (d + 6) 83 [zr (some (B + 2)), zr (some (E.2.1 i))] (zwi S I) (Sum.inl none, zwi S' I') ∧ xRD E S' I' B X (tE X e) ∧ rFr B (mS S) 2 12 S S' I I' := by
  have bk2 := hR.1.2.1
  obtain ⟨S1, I1, a1, b1, f1⟩ := sp_X1_takes_1 (d := d) hB hR hi h
  refine ⟨S1, I1, ?_, b1, f1⟩
  refine zcl_in' zP_X1_must ?_; rw [zn_2_2]
  refine zat_in zP_X1_must zk_X1_must_0 ?_
  simp (disch := omega) only [b_X1_must_0, zif, zdr, zkb, mK_wi, mN_wi, mJ_wi, mI_wi, sI_wi, beq_self_eq_true, Bool.true_or, Bool.or_true, Bool.or_false, Bool.and_self, Bool.and_true, Bool.true_and, ↓reduceIte, ble_up0, i_cl, i_succ, zix_of, zfl_k, zup_k, zup_q, bk2]
  refine ev_ci a1 ?_
  try simp (disch := omega) only [zif, zdr, zkb, mK_wi, mN_wi, mJ_wi, mI_wi, sI_wi, beq_self_eq_true, Bool.true_or, Bool.or_true, Bool.or_false, Bool.and_self, Bool.and_true, Bool.true_and, ↓reduceIte, ble_up0, i_cl, i_succ, zix_of, zfl_k, zup_k, zup_q, i10]
  refine ev_bk ?_
  refine zat_in zP_X1_must zk_X1_must_14 ?_; simp (disch := omega) only [b_X1_must_14, zif, zdr, zkb, mK_wi, mN_wi, mJ_wi, mI_wi, sI_wi, beq_self_eq_true, Bool.true_or, Bool.or_true, Bool.or_false, Bool.and_self, Bool.and_true, Bool.true_and, ↓reduceIte]
  exact ev_r
theorem sp_X1_must_0 (hB : E.1 ≤ B) (hR : xRD E S I B X e) (hi : i < 47) (h : ¬ isw X e i) : ∃ I', zCl E (d + 4) 83 [zr (some (B + 2)), zr (some (E.2.1 i))] (zwi S I) (Sum.inr (B + 3), zwi S I') ∧ xTh I' B 1 (kA X e) ∧ rFr B (mS S) 0 0 S S I I' := by
  have bk2 := hR.1.2.1
  have brk0 := hR.1.2.2.1.2
  have ct := sp_X1_takes_0 (E := E) (d := d) hR hi h
  obtain ⟨I1, a1, b1, f1⟩ := sp_X1_fail (E := E) (d := d + 1) (f := 1) hB hR
  refine ⟨I1, ?_, b1, f1⟩
  refine zcl_in' zP_X1_must ?_; rw [zn_2_2]
  refine zat_in zP_X1_must zk_X1_must_0 ?_
  simp (disch := omega) only [b_X1_must_0, zif, zdr, zkb, mK_wi, mN_wi, mJ_wi, mI_wi, sI_wi, beq_self_eq_true, Bool.true_or, Bool.or_true, Bool.or_false, Bool.and_self, Bool.and_true, Bool.true_and, ↓reduceIte, ble_up0, i_cl, i_succ, zix_of, zfl_k, zup_k, zup_q, bk2]
  refine ev_ci ct ?_
  try simp (disch := omega) only [zif, zdr, zkb, mK_wi, mN_wi, mJ_wi, mI_wi, sI_wi, beq_self_eq_true, Bool.true_or, Bool.or_true, Bool.or_false, Bool.and_self, Bool.and_true, Bool.true_and, ↓reduceIte, ble_up0, i_cl, i_succ, zix_of, zfl_k, zup_k, zup_q, bk2]
  refine ev_cr a1 ?_
  try simp (disch := omega) only [zif, zdr, zkb, mK_wi, mN_wi, mJ_wi, mI_wi, sI_wi, beq_self_eq_true, Bool.true_or, Bool.or_true, Bool.or_false, Bool.and_self, Bool.and_true, Bool.true_and, ↓reduceIte, ble_up0, i_cl, i_succ, zix_of, zfl_k, zup_k, zup_q, brk0]
  exact ev_r
end
