/-! ===== the next token (class) ===== -/
set_option maxRecDepth 100000
theorem i_subL {a b : Nat} (h : b ≤ a) (ha : a < 2147483648) : Int32.ofNat a - Int32.ofNat b = Int32.ofNat (a - b) := by
  rw [← Int32.toInt_inj, Int32.toInt_sub, i_int ha, i_int (by omega), i_int (by omega), Int.bmod_eq_of_le (by omega) (by omega)]
  omega
theorem i_le8 {n : Nat} (h : n < 2147483648) : ((8 : Int32) ≤ Int32.ofNat n) = (8 ≤ n) := i_le (a := 8) (by omega) h
theorem i_8le {n : Nat} (h : n < 2147483648) : (Int32.ofNat n ≤ (8 : Int32)) = (n ≤ 8) := i_le (b := 8) h (by omega)
theorem i_le4 {n : Nat} (h : n < 2147483648) : ((4 : Int32) ≤ Int32.ofNat n) = (4 ≤ n) := i_le (a := 4) (by omega) h
theorem i_4le {n : Nat} (h : n < 2147483648) : (Int32.ofNat n ≤ (4 : Int32)) = (n ≤ 4) := i_le (b := 4) h (by omega)
/-- the reader's cells -/
def xRS (S : zM) (B : Nat) : Prop := (mK S (B + 1) = 102 ∧ mN S (B + 1) = 400) ∧ mK S (B + 2) = 2 ∧ (mJ S (B + 2) 0 = some (B + 3) ∧ mK S (B + 3) = 3) ∧ mJ S (B + 2) 1 = some (B + 1) ∧ mJ S (B + 2) 2 = some (B + 4) ∧ mK S (B + 4) = 103 ∧ mN S (B + 4) = 8
def rdI (I : Nat → Nat → Int32) (B : Nat) (X : zTx) : Prop := I (B + 2) 3 = Int32.ofNat X.2 ∧ ∀ j, j < 400 → I (B + 1) j = X.1 j
/-- the word that was read lies in the memory -/
def xWd (S : zM) (I : Nat → Nat → Int32) (B : Nat) (f : Nat → Int32) (l : Nat) : Prop := ∃ s sb, mJ S (B + 2) 8 = some s ∧ B + 466 ≤ s ∧ s < sb ∧ sb < mS S ∧ xTx S I s sb f l ∧ xHs I s f l
/-- the current token is the one from e on -/
def xTk (S : zM) (I : Nat → Nat → Int32) (B : Nat) (X : zTx) (e : Nat) : Prop := (rdI I B X ∧ X.2 ≤ 400) ∧ I (B + 2) 4 = Int32.ofNat (tE X e) ∧ I (B + 2) 5 = tK X e ∧ I (B + 2) 6 = Int32.ofNat (kA X e) ∧ (tK X e = 3 → I (B + 2) 7 = tN X e) ∧ (tK X e = 2 → xWd S I B (tW X e) (tL X e))
/-- what reading leaves as it was below m; c cells and u slots are new -/
def rFr (B m c u : Nat) (S S' : zM) (I I' : Nat → Nat → Int32) : Prop := (mS S ≤ mS S' ∧ mS S' ≤ mS S + c ∧ mU S' ≤ mU S + u) ∧ (∀ a, a < m → mK S' a = mK S a ∧ mN S' a = mN S a) ∧ (∀ a k, a < m → ¬ (a = B + 2 ∧ k = 8) → mJ S' a k = mJ S a k) ∧ (∀ a k, a < m → ¬ (B + 2 ≤ a ∧ a ≤ B + 4) → (mK S a = 17 → a < B) → I' a k = I a k) ∧ (∀ a, mS S' ≤ a → mK S' a = 0)
theorem rFr.tr {B m c u c' u' : Nat} {S S1 S2 : zM} {I I1 I2 : Nat → Nat → Int32} (h : rFr B m c u S S1 I I1) (h' : rFr B m c' u' S1 S2 I1 I2) : rFr B m (c + c') (u + u') S S2 I I2 := by
  obtain ⟨⟨a1, a2, a3⟩, a4, a5, a6, a7⟩ := h
  obtain ⟨⟨b1, b2, b3⟩, b4, b5, b6, b7⟩ := h'
  refine ⟨⟨by omega, by omega, by omega⟩, fun a ha => ⟨(b4 a ha).1.trans (a4 a ha).1, (b4 a ha).2.trans (a4 a ha).2⟩, fun a k ha hk => (b5 a k ha hk).trans (a5 a k ha hk), fun a k ha hk hr => (b6 a k ha hk (fun q => hr (((a4 a ha).1).symm.trans q))).trans (a6 a k ha hk hr), b7⟩
theorem rFr.rf {B m c u : Nat} {S : zM} {I : Nat → Nat → Int32} (hz : ∀ a, mS S ≤ a → mK S a = 0) : rFr B m c u S S I I := ⟨⟨Nat.le_refl _, by omega, by omega⟩, fun _ _ => ⟨rfl, rfl⟩, fun _ _ _ _ => rfl, fun _ _ _ _ _ => rfl, hz⟩
theorem rFr.wd {B m c u m' c' u' : Nat} {S S' : zM} {I I' : Nat → Nat → Int32} (h : rFr B m c u S S' I I') (h0 : m' ≤ m) (h1 : c ≤ c') (h2 : u ≤ u') : rFr B m' c' u' S S' I I' := by
  obtain ⟨⟨a1, a2, a3⟩, a4, a5, a6, a7⟩ := h
  exact ⟨⟨a1, by omega, by omega⟩, fun a ha => a4 a (by omega), fun a k ha => a5 a k (by omega), fun a k ha => a6 a k (by omega), a7⟩
theorem xRS.fr {B m c u : Nat} {S S' : zM} {I I' : Nat → Nat → Int32} (h : xRS S B) (hf : rFr B m c u S S' I I') (hm : B + 466 ≤ m) : xRS S' B := by
  obtain ⟨-, f1, f2, -, -⟩ := hf
  obtain ⟨⟨h1, h2⟩, h3, ⟨h4, h5⟩, h6, h7, h8, h9⟩ := h
  exact ⟨⟨(f1 _ (by omega)).1.trans h1, (f1 _ (by omega)).2.trans h2⟩, (f1 _ (by omega)).1.trans h3, ⟨(f2 _ _ (by omega) (by omega)).trans h4, (f1 _ (by omega)).1.trans h5⟩, (f2 _ _ (by omega) (by omega)).trans h6, (f2 _ _ (by omega) (by omega)).trans h7, (f1 _ (by omega)).1.trans h8, (f1 _ (by omega)).2.trans h9⟩
section
variable {E : zE} {d B p : Nat} {S : zM} {I : Nat → Nat → Int32} {X : zTx}
theorem rdI.put {a k : Nat} {v : Int32} (h : rdI I B X) (h1 : B + 2 ≤ a) (h2 : ¬ (a = B + 2 ∧ k = 3)) : rdI (zup I a k v) B X := ⟨(zup_k (by omega)).trans h.1, fun j hj => (zup_k (by omega)).trans (h.2 j hj)⟩
theorem sp_X1_seeX (hS : xRS S B) (hX : X.2 ≤ 400) (h : rdI I B X) {k : Nat} (hk : k < 100000) : zCl E d 74 [zr (some (B + 2)), zi (Int32.ofNat k)] (zwi S I) (Sum.inl (some (zi (zsc X k))), zwi S I) :=
  sp_X1_see hS.2.1 hS.2.2.2.1 hS.1.1 hS.1.2 h.1 hX hk h.2
theorem lp_X1_skip (hS : xRS S B) (hX : X.2 ≤ 400) (h : rdI I B X) : ∀ c k : Nat, k + c = X.2 → ∀ r, zAt E (d + 1) 73 31 [some (zr (some (B + 2))), some (zi (Int32.ofNat (skp X c k))), none] [] (zwi S I) r → zAt E (d + 1) 73 5 [some (zr (some (B + 2))), some (zi (Int32.ofNat k)), none] [] (zwi S I) r := by
  have bk2 := hS.2.1
  intro c
  induction c with
  | zero =>
    intro k hk r hr
    have c1 : zsc X k = -1 := zsc_n (by omega)
    have d1 : ((-1 : Int32) = 32) = False := eq_false (by decide)
    have d2 : ((-1 : Int32) = 10) = False := eq_false (by decide)
    have cs := sp_X1_seeX (E := E) (d := d) hS hX h (show k < 100000 by omega)
    rw [c1] at cs
    refine zat_in zP_X1_next zk_X1_next_5 ?_
    simp (disch := omega) only [b_X1_next_5, zif, zdr, zkb, mK_wi, mN_wi, mJ_wi, mI_wi, sI_wi, beq_self_eq_true, Bool.true_or, Bool.or_true, Bool.or_false, Bool.and_self, Bool.and_true, Bool.true_and, ↓reduceIte, ble_up0, i_cl, i_succ, zix_of, zfl_k, zup_k, zup_q, bk2]
    refine ev_ci cs ?_
    simp (disch := omega) only [zif, zdr, zkb, mK_wi, mN_wi, mJ_wi, mI_wi, sI_wi, beq_self_eq_true, Bool.true_or, Bool.or_true, Bool.or_false, Bool.and_self, Bool.and_true, Bool.true_and, ↓reduceIte, ble_up0, i_cl, i_succ, zix_of, zfl_k, zup_k, zup_q, bk2, d1]
    refine ev_ci cs ?_
    simp (disch := omega) only [zif, zdr, zkb, mK_wi, mN_wi, mJ_wi, mI_wi, sI_wi, beq_self_eq_true, Bool.true_or, Bool.or_true, Bool.or_false, Bool.and_self, Bool.and_true, Bool.true_and, ↓reduceIte, ble_up0, i_cl, i_succ, zix_of, zfl_k, zup_k, zup_q, bk2, d2]
    exact ev_bk hr
  | succ c ih =>
    intro k hk r hr
    have cs := sp_X1_seeX (E := E) (d := d) hS hX h (show k < 100000 by omega)
    have e25 := @b_X1_next_25
    unfold skp at hr
    by_cases c1 : zsc X k = 32
    · rw [if_pos (Or.inl c1)] at hr
      have d1 := eq_true c1
      refine zat_in zP_X1_next zk_X1_next_5 ?_
      simp (disch := omega) only [b_X1_next_5, zif, zdr, zkb, mK_wi, mN_wi, mJ_wi, mI_wi, sI_wi, beq_self_eq_true, Bool.true_or, Bool.or_true, Bool.or_false, Bool.and_self, Bool.and_true, Bool.true_and, ↓reduceIte, ble_up0, i_cl, i_succ, zix_of, zfl_k, zup_k, zup_q, bk2]
      refine ev_ci cs ?_
      simp (disch := omega) only [zif, zdr, zkb, mK_wi, mN_wi, mJ_wi, mI_wi, sI_wi, beq_self_eq_true, Bool.true_or, Bool.or_true, Bool.or_false, Bool.and_self, Bool.and_true, Bool.true_and, ↓reduceIte, ble_up0, i_cl, i_succ, zix_of, zfl_k, zup_k, zup_q, bk2, d1]
      refine ev_bk ?_
      refine zat_in zP_X1_next zk_X1_next_25 ?_
      simp (disch := omega) only [e25, zif, zdr, zkb, mK_wi, mN_wi, mJ_wi, mI_wi, sI_wi, beq_self_eq_true, Bool.true_or, Bool.or_true, Bool.or_false, Bool.and_self, Bool.and_true, Bool.true_and, ↓reduceIte, ble_up0, i_cl, i_succ, zix_of, zfl_k, zup_k, zup_q, bk2]
      exact ev_bk (ih (k + 1) (by omega) r hr)
    · have d1 := eq_false c1
      by_cases c2 : zsc X k = 10
      · rw [if_pos (Or.inr c2)] at hr
        have d2 := eq_true c2
        refine zat_in zP_X1_next zk_X1_next_5 ?_
        simp (disch := omega) only [b_X1_next_5, zif, zdr, zkb, mK_wi, mN_wi, mJ_wi, mI_wi, sI_wi, beq_self_eq_true, Bool.true_or, Bool.or_true, Bool.or_false, Bool.and_self, Bool.and_true, Bool.true_and, ↓reduceIte, ble_up0, i_cl, i_succ, zix_of, zfl_k, zup_k, zup_q, bk2]
        refine ev_ci cs ?_
        simp (disch := omega) only [zif, zdr, zkb, mK_wi, mN_wi, mJ_wi, mI_wi, sI_wi, beq_self_eq_true, Bool.true_or, Bool.or_true, Bool.or_false, Bool.and_self, Bool.and_true, Bool.true_and, ↓reduceIte, ble_up0, i_cl, i_succ, zix_of, zfl_k, zup_k, zup_q, bk2, d1]
        refine ev_ci cs ?_
        simp (disch := omega) only [zif, zdr, zkb, mK_wi, mN_wi, mJ_wi, mI_wi, sI_wi, beq_self_eq_true, Bool.true_or, Bool.or_true, Bool.or_false, Bool.and_self, Bool.and_true, Bool.true_and, ↓reduceIte, ble_up0, i_cl, i_succ, zix_of, zfl_k, zup_k, zup_q, bk2, d2]
        refine ev_tl zP_X1_next zk_X1_next_25 ?_
        refine zat_in zP_X1_next zk_X1_next_25 ?_
        simp (disch := omega) only [e25, zif, zdr, zkb, mK_wi, mN_wi, mJ_wi, mI_wi, sI_wi, beq_self_eq_true, Bool.true_or, Bool.or_true, Bool.or_false, Bool.and_self, Bool.and_true, Bool.true_and, ↓reduceIte, ble_up0, i_cl, i_succ, zix_of, zfl_k, zup_k, zup_q, bk2]
        exact ev_bk (ih (k + 1) (by omega) r hr)
      · rw [if_neg (by intro q; rcases q with q | q; exact c1 q; exact c2 q)] at hr
        have d2 := eq_false c2
        refine zat_in zP_X1_next zk_X1_next_5 ?_
        simp (disch := omega) only [b_X1_next_5, zif, zdr, zkb, mK_wi, mN_wi, mJ_wi, mI_wi, sI_wi, beq_self_eq_true, Bool.true_or, Bool.or_true, Bool.or_false, Bool.and_self, Bool.and_true, Bool.true_and, ↓reduceIte, ble_up0, i_cl, i_succ, zix_of, zfl_k, zup_k, zup_q, bk2]
        refine ev_ci cs ?_
        simp (disch := omega) only [zif, zdr, zkb, mK_wi, mN_wi, mJ_wi, mI_wi, sI_wi, beq_self_eq_true, Bool.true_or, Bool.or_true, Bool.or_false, Bool.and_self, Bool.and_true, Bool.true_and, ↓reduceIte, ble_up0, i_cl, i_succ, zix_of, zfl_k, zup_k, zup_q, bk2, d1]
        refine ev_ci cs ?_
        simp (disch := omega) only [zif, zdr, zkb, mK_wi, mN_wi, mJ_wi, mI_wi, sI_wi, beq_self_eq_true, Bool.true_or, Bool.or_true, Bool.or_false, Bool.and_self, Bool.and_true, Bool.true_and, ↓reduceIte, ble_up0, i_cl, i_succ, zix_of, zfl_k, zup_k, zup_q, bk2, d2]
        exact ev_bk hr
/-- the letters of a word -/
theorem lp_X1_word {ch : Int32} (hB : E.1 ≤ B) (hS : xRS S B) (hX : X.2 ≤ 400) : ∀ c k : Nat, k + c = X.2 → p ≤ k → ∀ I, rdI I B X → I (B + 2) 4 = Int32.ofNat k → (∀ j, p + j < k → j < 8 → I (B + 4) j = zsc X (p + j)) → ∃ I', (∀ r, zAt E (d + 1) 73 137 [some (zr (some (B + 2))), some (zi (Int32.ofNat p)), some (zi ch)] [] (zwi S I') r → zAt E (d + 1) 73 79 [some (zr (some (B + 2))), some (zi (Int32.ofNat p)), some (zi ch)] [] (zwi S I) r) ∧ rdI I' B X ∧ I' (B + 2) 4 = Int32.ofNat (rnL X c k) ∧ (∀ j, p + j < rnL X c k → j < 8 → I' (B + 4) j = zsc X (p + j)) ∧ ∀ a i, ¬ (a = B + 2 ∧ i = 4) → a ≠ B + 4 → I' a i = I a i := by
  have bk2 := hS.2.1
  obtain ⟨-, -, -, -, br2, brk2, brn2⟩ := id hS
  intro c
  induction c with
  | zero =>
    intro k hk hp I h e4 hj
    have c1 : zsc X k = -1 := zsc_n (by omega)
    have cs := sp_X1_seeX (E := E) (d := d) hS hX h (show k < 100000 by omega)
    have cm := sp_X1_isSmall (E := E) (d := d) (S := S) (I := I) (c := zsc X k)
    rw [c1] at cs cm
    rw [sml_1] at cm
    refine ⟨I, fun r hr => ?_, h, e4, hj, fun _ _ _ _ => rfl⟩
    refine zat_in zP_X1_next zk_X1_next_79 ?_
    simp (disch := omega) only [b_X1_next_79, zif, zdr, zkb, mK_wi, mN_wi, mJ_wi, mI_wi, sI_wi, beq_self_eq_true, Bool.true_or, Bool.or_true, Bool.or_false, Bool.and_self, Bool.and_true, Bool.true_and, ↓reduceIte, ble_up0, i_cl, i_succ, zix_of, zfl_k, zup_k, zup_q, bk2, e4]
    refine ev_ci cs ?_
    refine ev_ci cm ?_
    simp (disch := omega) only [zif, zdr, zkb, mK_wi, mN_wi, mJ_wi, mI_wi, sI_wi, beq_self_eq_true, Bool.true_or, Bool.or_true, Bool.or_false, Bool.and_self, Bool.and_true, Bool.true_and, ↓reduceIte, ble_up0, i_cl, i_succ, zix_of, zfl_k, zup_k, zup_q, bk2]
    exact ev_bk hr
  | succ c ih =>
    intro k hk hp I h e4 hj
    have cs := sp_X1_seeX (E := E) (d := d) hS hX h (show k < 100000 by omega)
    have cm := sp_X1_isSmall (E := E) (d := d) (S := S) (I := I) (c := zsc X k)
    unfold rnL
    by_cases c1 : sml (zsc X k) = 0
    · rw [if_pos c1]
      rw [c1] at cm
      refine ⟨I, fun r hr => ?_, h, e4, hj, fun _ _ _ _ => rfl⟩
      refine zat_in zP_X1_next zk_X1_next_79 ?_
      simp (disch := omega) only [b_X1_next_79, zif, zdr, zkb, mK_wi, mN_wi, mJ_wi, mI_wi, sI_wi, beq_self_eq_true, Bool.true_or, Bool.or_true, Bool.or_false, Bool.and_self, Bool.and_true, Bool.true_and, ↓reduceIte, ble_up0, i_cl, i_succ, zix_of, zfl_k, zup_k, zup_q, bk2, e4]
      refine ev_ci cs ?_
      refine ev_ci cm ?_
      simp (disch := omega) only [zif, zdr, zkb, mK_wi, mN_wi, mJ_wi, mI_wi, sI_wi, beq_self_eq_true, Bool.true_or, Bool.or_true, Bool.or_false, Bool.and_self, Bool.and_true, Bool.true_and, ↓reduceIte, ble_up0, i_cl, i_succ, zix_of, zfl_k, zup_k, zup_q, bk2]
      exact ev_bk hr
    · rw [if_neg c1]
      have d1 := eq_false c1
      by_cases c2 : 8 ≤ k - p
      · obtain ⟨I1, a1, p1, q1, s1, t1⟩ := ih (k + 1) (by omega) (by omega) (zup I (B + 2) 4 (Int32.ofNat (k + 1))) (h.put (by omega) (by omega)) (zup_q _ _ _ _) (fun j h1 h2 => by rw [zup_k (by omega)]; exact hj j (by omega) h2)
        refine ⟨I1, fun r hr => ?_, p1, q1, s1, fun a i h1 h2 => by rw [t1 a i h1 h2, zup_k (by omega)]⟩
        have d2 := eq_true c2
        have e124 := @b_X1_next_124
        refine zat_in zP_X1_next zk_X1_next_79 ?_
        simp (disch := omega) only [b_X1_next_79, zif, zdr, zkb, mK_wi, mN_wi, mJ_wi, mI_wi, sI_wi, beq_self_eq_true, Bool.true_or, Bool.or_true, Bool.or_false, Bool.and_self, Bool.and_true, Bool.true_and, ↓reduceIte, ble_up0, i_cl, i_succ, zix_of, zfl_k, zup_k, zup_q, bk2, e4]
        refine ev_ci cs ?_
        refine ev_ci cm ?_
        simp (disch := omega) only [zif, zdr, zkb, mK_wi, mN_wi, mJ_wi, mI_wi, sI_wi, beq_self_eq_true, Bool.true_or, Bool.or_true, Bool.or_false, Bool.and_self, Bool.and_true, Bool.true_and, ↓reduceIte, ble_up0, i_cl, i_succ, zix_of, zfl_k, zup_k, zup_q, bk2, e4, d1, i_subL, i_le8, d2]
        refine ev_bk ?_
        refine zat_in zP_X1_next zk_X1_next_124 ?_
        simp (disch := omega) only [e124, zif, zdr, zkb, mK_wi, mN_wi, mJ_wi, mI_wi, sI_wi, beq_self_eq_true, Bool.true_or, Bool.or_true, Bool.or_false, Bool.and_self, Bool.and_true, Bool.true_and, ↓reduceIte, ble_up0, i_cl, i_succ, zix_of, zfl_k, zup_k, zup_q, bk2, e4]
        exact ev_bk (a1 r hr)
      · have d2 := eq_false c2
        obtain ⟨f1, f2, f3⟩ := sml_i c1
        have e5 : UInt32.toInt32 (Int32.toUInt32 (zsc X k) % 65536) = zsc X k := by
          have := c16 (nn (zsc X k)) (by omega)
          rw [← f1] at this
          exact this
        obtain ⟨I1, a1, p1, q1, s1, t1⟩ := ih (k + 1) (by omega) (by omega) (zup (zup I (B + 4) (k - p) (zsc X k)) (B + 2) 4 (Int32.ofNat (k + 1))) ((h.put (by omega) (by omega)).put (by omega) (by omega)) (zup_q _ _ _ _) (fun j h1 h2 => by
          rw [zup_k (by omega)]
          by_cases q : j = k - p
          · rw [q, zup_q, show p + (k - p) = k by omega]
          · rw [zup_k (by omega)]
            exact hj j (by omega) h2)
        refine ⟨I1, fun r hr => ?_, p1, q1, s1, fun a i h1 h2 => by rw [t1 a i h1 h2, zup_k (by omega), zup_k (by omega)]⟩
        refine zat_in zP_X1_next zk_X1_next_79 ?_
        simp (disch := omega) only [b_X1_next_79, zif, zdr, zkb, mK_wi, mN_wi, mJ_wi, mI_wi, sI_wi, beq_self_eq_true, Bool.true_or, Bool.or_true, Bool.or_false, Bool.and_self, Bool.and_true, Bool.true_and, ↓reduceIte, ble_up0, i_cl, i_succ, zix_of, zfl_k, zup_k, zup_q, bk2, e4]
        refine ev_ci cs ?_
        refine ev_ci cm ?_
        simp (disch := omega) only [zif, zdr, zkb, mK_wi, mN_wi, mJ_wi, mI_wi, sI_wi, beq_self_eq_true, Bool.true_or, Bool.or_true, Bool.or_false, Bool.and_self, Bool.and_true, Bool.true_and, ↓reduceIte, ble_up0, i_cl, i_succ, zix_of, zfl_k, zup_k, zup_q, bk2, e4, d1, i_subL, i_le8, d2]
        refine ev_ci cs ?_
        simp (disch := omega) only [zif, zdr, zkb, mK_wi, mN_wi, mJ_wi, mI_wi, sI_wi, beq_self_eq_true, Bool.true_or, Bool.or_true, Bool.or_false, Bool.and_self, Bool.and_true, Bool.true_and, ↓reduceIte, ble_up0, i_cl, i_succ, zix_of, zfl_k, zup_k, zup_q, bk2, e4, br2, brk2, brn2, i_subL, e5]
        refine ev_tl zP_X1_next zk_X1_next_124 ?_
        have e124 := @b_X1_next_124
        refine zat_in zP_X1_next zk_X1_next_124 ?_
        simp (disch := omega) only [e124, zif, zdr, zkb, mK_wi, mN_wi, mJ_wi, mI_wi, sI_wi, beq_self_eq_true, Bool.true_or, Bool.or_true, Bool.or_false, Bool.and_self, Bool.and_true, Bool.true_and, ↓reduceIte, ble_up0, i_cl, i_succ, zix_of, zfl_k, zup_k, zup_q, bk2, e4]
        exact ev_bk (a1 r hr)
/-- the digits of a number -/
theorem lp_X1_num {ch : Int32} (hB : E.1 ≤ B) (hS : xRS S B) (hX : X.2 ≤ 400) : ∀ c k : Nat, k + c = X.2 → p ≤ k → ∀ I, rdI I B X → I (B + 2) 4 = Int32.ofNat k → (k ≤ p + 4 → I (B + 2) 7 = nmb X p (k - p)) → ∃ I', (∀ r, zAt E (d + 1) 73 272 [some (zr (some (B + 2))), some (zi (Int32.ofNat p)), some (zi ch)] [] (zwi S I') r → zAt E (d + 1) 73 212 [some (zr (some (B + 2))), some (zi (Int32.ofNat p)), some (zi ch)] [] (zwi S I) r) ∧ rdI I' B X ∧ I' (B + 2) 4 = Int32.ofNat (rnD X c k) ∧ (rnD X c k ≤ p + 4 → I' (B + 2) 7 = nmb X p (rnD X c k - p)) ∧ ∀ a i, ¬ (a = B + 2 ∧ (i = 4 ∨ i = 7)) → I' a i = I a i := by
  have bk2 := hS.2.1
  intro c
  induction c with
  | zero =>
    intro k hk hp I h e4 hj
    have c1 : zsc X k = -1 := zsc_n (by omega)
    have cs := sp_X1_seeX (E := E) (d := d) hS hX h (show k < 100000 by omega)
    have cm := sp_X1_isDigit (E := E) (d := d) (S := S) (I := I) (c := zsc X k)
    rw [c1] at cs cm
    rw [dgt_1] at cm
    refine ⟨I, fun r hr => ?_, h, e4, hj, fun _ _ _ => rfl⟩
    refine zat_in zP_X1_next zk_X1_next_212 ?_
    simp (disch := omega) only [b_X1_next_212, zif, zdr, zkb, mK_wi, mN_wi, mJ_wi, mI_wi, sI_wi, beq_self_eq_true, Bool.true_or, Bool.or_true, Bool.or_false, Bool.and_self, Bool.and_true, Bool.true_and, ↓reduceIte, ble_up0, i_cl, i_succ, zix_of, zfl_k, zup_k, zup_q, bk2, e4]
    refine ev_ci cs ?_
    refine ev_ci cm ?_
    simp (disch := omega) only [zif, zdr, zkb, mK_wi, mN_wi, mJ_wi, mI_wi, sI_wi, beq_self_eq_true, Bool.true_or, Bool.or_true, Bool.or_false, Bool.and_self, Bool.and_true, Bool.true_and, ↓reduceIte, ble_up0, i_cl, i_succ, zix_of, zfl_k, zup_k, zup_q, bk2]
    exact ev_bk hr
  | succ c ih =>
    intro k hk hp I h e4 hj
    have cs := sp_X1_seeX (E := E) (d := d) hS hX h (show k < 100000 by omega)
    have cm := sp_X1_isDigit (E := E) (d := d) (S := S) (I := I) (c := zsc X k)
    unfold rnD
    by_cases c1 : dgt (zsc X k) = 0
    · rw [if_pos c1]
      rw [c1] at cm
      refine ⟨I, fun r hr => ?_, h, e4, hj, fun _ _ _ => rfl⟩
      refine zat_in zP_X1_next zk_X1_next_212 ?_
      simp (disch := omega) only [b_X1_next_212, zif, zdr, zkb, mK_wi, mN_wi, mJ_wi, mI_wi, sI_wi, beq_self_eq_true, Bool.true_or, Bool.or_true, Bool.or_false, Bool.and_self, Bool.and_true, Bool.true_and, ↓reduceIte, ble_up0, i_cl, i_succ, zix_of, zfl_k, zup_k, zup_q, bk2, e4]
      refine ev_ci cs ?_
      refine ev_ci cm ?_
      simp (disch := omega) only [zif, zdr, zkb, mK_wi, mN_wi, mJ_wi, mI_wi, sI_wi, beq_self_eq_true, Bool.true_or, Bool.or_true, Bool.or_false, Bool.and_self, Bool.and_true, Bool.true_and, ↓reduceIte, ble_up0, i_cl, i_succ, zix_of, zfl_k, zup_k, zup_q, bk2]
      exact ev_bk hr
    · rw [if_neg c1]
      have d1 := eq_false c1
      by_cases c2 : 4 ≤ k - p
      · obtain ⟨I1, a1, p1, q1, s1, t1⟩ := ih (k + 1) (by omega) (by omega) (zup I (B + 2) 4 (Int32.ofNat (k + 1))) (h.put (by omega) (by omega)) (zup_q _ _ _ _) (fun q => by omega)
        refine ⟨I1, fun r hr => ?_, p1, q1, s1, fun a i h1 => by rw [t1 a i h1, zup_k (by omega)]⟩
        have d2 := eq_true c2
        have e259 := @b_X1_next_259
        refine zat_in zP_X1_next zk_X1_next_212 ?_
        simp (disch := omega) only [b_X1_next_212, zif, zdr, zkb, mK_wi, mN_wi, mJ_wi, mI_wi, sI_wi, beq_self_eq_true, Bool.true_or, Bool.or_true, Bool.or_false, Bool.and_self, Bool.and_true, Bool.true_and, ↓reduceIte, ble_up0, i_cl, i_succ, zix_of, zfl_k, zup_k, zup_q, bk2, e4]
        refine ev_ci cs ?_
        refine ev_ci cm ?_
        simp (disch := omega) only [zif, zdr, zkb, mK_wi, mN_wi, mJ_wi, mI_wi, sI_wi, beq_self_eq_true, Bool.true_or, Bool.or_true, Bool.or_false, Bool.and_self, Bool.and_true, Bool.true_and, ↓reduceIte, ble_up0, i_cl, i_succ, zix_of, zfl_k, zup_k, zup_q, bk2, e4, d1, i_subL, i_le4, d2]
        refine ev_bk ?_
        refine zat_in zP_X1_next zk_X1_next_259 ?_
        simp (disch := omega) only [e259, zif, zdr, zkb, mK_wi, mN_wi, mJ_wi, mI_wi, sI_wi, beq_self_eq_true, Bool.true_or, Bool.or_true, Bool.or_false, Bool.and_self, Bool.and_true, Bool.true_and, ↓reduceIte, ble_up0, i_cl, i_succ, zix_of, zfl_k, zup_k, zup_q, bk2, e4]
        exact ev_bk (a1 r hr)
      · have d2 := eq_false c2
        have e7 := hj (by omega)
        have e8 : 10 * nmb X p (k - p) + zsc X k - 48 = nmb X p (k + 1 - p) := by
          rw [show k + 1 - p = k - p + 1 by omega]
          show _ = 10 * nmb X p (k - p) + zsc X (p + (k - p)) - 48
          rw [show p + (k - p) = k by omega]
        obtain ⟨I1, a1, p1, q1, s1, t1⟩ := ih (k + 1) (by omega) (by omega) (zup (zup I (B + 2) 7 (nmb X p (k + 1 - p))) (B + 2) 4 (Int32.ofNat (k + 1))) ((h.put (by omega) (by omega)).put (by omega) (by omega)) (zup_q _ _ _ _) (fun q => by rw [zup_k (by omega), zup_q])
        refine ⟨I1, fun r hr => ?_, p1, q1, s1, fun a i h1 => by rw [t1 a i h1, zup_k (by omega), zup_k (by omega)]⟩
        have e259 := @b_X1_next_259
        refine zat_in zP_X1_next zk_X1_next_212 ?_
        simp (disch := omega) only [b_X1_next_212, zif, zdr, zkb, mK_wi, mN_wi, mJ_wi, mI_wi, sI_wi, beq_self_eq_true, Bool.true_or, Bool.or_true, Bool.or_false, Bool.and_self, Bool.and_true, Bool.true_and, ↓reduceIte, ble_up0, i_cl, i_succ, zix_of, zfl_k, zup_k, zup_q, bk2, e4]
        refine ev_ci cs ?_
        refine ev_ci cm ?_
        simp (disch := omega) only [zif, zdr, zkb, mK_wi, mN_wi, mJ_wi, mI_wi, sI_wi, beq_self_eq_true, Bool.true_or, Bool.or_true, Bool.or_false, Bool.and_self, Bool.and_true, Bool.true_and, ↓reduceIte, ble_up0, i_cl, i_succ, zix_of, zfl_k, zup_k, zup_q, bk2, e4, d1, i_subL, i_le4, d2]
        refine ev_ci cs ?_
        simp (disch := omega) only [zif, zdr, zkb, mK_wi, mN_wi, mJ_wi, mI_wi, sI_wi, beq_self_eq_true, Bool.true_or, Bool.or_true, Bool.or_false, Bool.and_self, Bool.and_true, Bool.true_and, ↓reduceIte, ble_up0, i_cl, i_succ, zix_of, zfl_k, zup_k, zup_q, bk2, e7, e8]
        refine ev_tl zP_X1_next zk_X1_next_259 ?_
        refine zat_in zP_X1_next zk_X1_next_259 ?_
        simp (disch := omega) only [e259, zif, zdr, zkb, mK_wi, mN_wi, mJ_wi, mI_wi, sI_wi, beq_self_eq_true, Bool.true_or, Bool.or_true, Bool.or_false, Bool.and_self, Bool.and_true, Bool.true_and, ↓reduceIte, ble_up0, i_cl, i_succ, zix_of, zfl_k, zup_k, zup_q, bk2, e4]
        exact ev_bk (a1 r hr)
theorem sp_X1_next {e : Nat} (hB : E.1 ≤ B) (hS : xRS S B) (hm : B + 466 ≤ mS S) (hz : ∀ a, mS S ≤ a → mK S a = 0) (hX : X.2 ≤ 400) (h : rdI I B X) (e4 : I (B + 2) 4 = Int32.ofNat e) (he : e ≤ X.2) : ∃ S' I', zCl E (d + 4) 73 [zr (some (B + 2))] (zwi S I) (Sum.inl none, zwi S' I') ∧ xTk S' I' B X e ∧ rFr B (mS S) 2 12 S S' I I' := by
  have bk2 := hS.2.1
  have br2 := hS.2.2.2.2.1
  obtain ⟨pa1, pa2⟩ := tA_le he
  obtain ⟨pe1, pe2⟩ := tE_le he
  -- to 31
  have st : ∀ r, zAt E (d + 4) 73 31 [some (zr (some (B + 2))), some (zi (Int32.ofNat (kA X e))), none] [] (zwi S I) r → zCl E (d + 4) 73 [zr (some (B + 2))] (zwi S I) r := by
    intro r hr
    have e0 := @b_X1_next_0
    refine zcl_in' zP_X1_next ?_; rw [zn_1_3]
    refine zat_in zP_X1_next zk_X1_next_0 ?_
    simp (disch := omega) only [e0, zif, zdr, zkb, mK_wi, mN_wi, mJ_wi, mI_wi, sI_wi, beq_self_eq_true, Bool.true_or, Bool.or_true, Bool.or_false, Bool.and_self, Bool.and_true, Bool.true_and, ↓reduceIte, ble_up0, i_cl, i_succ, zix_of, zfl_k, zup_k, zup_q, bk2, e4]
    refine ev_tl zP_X1_next zk_X1_next_5 ?_
    exact lp_X1_skip (d := d + 3) hS hX h (X.2 - e) e (by omega) r hr
  have h1 : rdI (zup (zup I (B + 2) 6 (Int32.ofNat (kA X e))) (B + 2) 4 (Int32.ofNat (kA X e + 1))) B X := (h.put (by omega) (by omega)).put (by omega) (by omega)
  have cs := sp_X1_seeX (E := E) (d := d + 3) hS hX h1 (show kA X e < 100000 by omega)
  have cm := sp_X1_isSmall (E := E) (d := d + 3) (S := S) (I := zup (zup I (B + 2) 6 (Int32.ofNat (kA X e))) (B + 2) 4 (Int32.ofNat (kA X e + 1))) (c := zsc X (kA X e))
  have cd := sp_X1_isDigit (E := E) (d := d + 3) (S := S) (I := zup (zup I (B + 2) 6 (Int32.ofNat (kA X e))) (B + 2) 4 (Int32.ofNat (kA X e + 1))) (c := zsc X (kA X e))
  have e321 := @b_X1_next_321
  have fin : ∀ (I' : Nat → Nat → Int32), (∀ a k, ¬ (B + 2 ≤ a ∧ a ≤ B + 4) → I' a k = I a k) → rFr B (mS S) 2 12 S S I I' := fun I' hf => ⟨⟨Nat.le_refl _, by omega, by omega⟩, fun _ _ => ⟨rfl, rfl⟩, fun _ _ _ _ => rfl, fun a k _ h2 _ => hf a k h2, hz⟩
  by_cases c1 : zsc X (kA X e) = -1
  · have k1 : tK X e = 0 := if_pos c1
    have k2 : tE X e = kA X e := if_pos c1
    have d1 := eq_true c1
    refine ⟨S, zup (zup (zup (zup I (B + 2) 6 (Int32.ofNat (kA X e))) (B + 2) 4 (Int32.ofNat (kA X e + 1))) (B + 2) 5 0) (B + 2) 4 (Int32.ofNat (kA X e)), st _ ?_, ⟨⟨(h1.put (by omega) (by omega)).put (by omega) (by omega), hX⟩, ?_, ?_, ?_, fun q => ?_, fun q => ?_⟩, fin _ (fun a k q => by simp (disch := omega) only [zfl_k, zfl_q, zup_k, zup_q])⟩
    · refine zat_in zP_X1_next zk_X1_next_31 ?_
      simp (disch := omega) only [b_X1_next_31, zif, zdr, zkb, mK_wi, mN_wi, mJ_wi, mI_wi, sI_wi, beq_self_eq_true, Bool.true_or, Bool.or_true, Bool.or_false, Bool.and_self, Bool.and_true, Bool.true_and, ↓reduceIte, ble_up0, i_cl, i_succ, zix_of, zfl_k, zup_k, zup_q, bk2]
      refine ev_ci cs ?_
      simp (disch := omega) only [zif, zdr, zkb, mK_wi, mN_wi, mJ_wi, mI_wi, sI_wi, beq_self_eq_true, Bool.true_or, Bool.or_true, Bool.or_false, Bool.and_self, Bool.and_true, Bool.true_and, ↓reduceIte, ble_up0, i_cl, i_succ, zix_of, zfl_k, zup_k, zup_q, bk2, d1]
      refine ev_bk ?_
      refine zat_in zP_X1_next zk_X1_next_321 ?_
      simp only [e321]
      exact ev_r
    · rw [zup_q, k2]
    · rw [zup_k (by omega), zup_q, k1]
    · rw [zup_k (by omega), zup_k (by omega), zup_k (by omega), zup_q]
    · rw [k1] at q
      exact absurd q (by decide)
    · rw [k1] at q
      exact absurd q (by decide)
  · have d1 := eq_false c1
    have hlt : kA X e < X.2 := by
      rcases Nat.lt_or_ge (kA X e) X.2 with q | q
      · exact q
      · exact absurd (zsc_n q) c1
    by_cases c2 : sml (zsc X (kA X e)) = 0
    · have d2 := eq_true c2
      by_cases c3 : dgt (zsc X (kA X e)) = 0
      · -- signs
        have d3 := eq_true c3
        have k2 : tE X e = kA X e + 1 := by unfold tE; rw [if_neg c1, if_pos c2, if_pos c3]
        have k1 : tK X e = sgn3 (zsc X (kA X e)) := by unfold tK; rw [if_neg c1, if_pos c2, if_pos c3]
        have ks : ∀ v, v = 2 ∨ v = 3 → sgn3 (zsc X (kA X e)) ≠ v := by
          unfold sgn3
          intro v hv
          repeat' split
          all_goals (rcases hv with rfl | rfl <;> decide)
        refine ⟨S, zup (zup (zup I (B + 2) 6 (Int32.ofNat (kA X e))) (B + 2) 4 (Int32.ofNat (kA X e + 1))) (B + 2) 5 (sgn3 (zsc X (kA X e))), st _ ?_, ⟨⟨h1.put (by omega) (by omega), hX⟩, ?_, ?_, ?_, fun q => ?_, fun q => ?_⟩, fin _ (fun a k q => by simp (disch := omega) only [zfl_k, zfl_q, zup_k, zup_q])⟩
        · have go : ∀ v : Int32, zAt E (d + 4) 73 318 [some (zr (some (B + 2))), some (zi (Int32.ofNat (kA X e))), some (zi (zsc X (kA X e)))] [zi v, zr (some (B + 2))] (zwi S (zup (zup I (B + 2) 6 (Int32.ofNat (kA X e))) (B + 2) 4 (Int32.ofNat (kA X e + 1)))) (Sum.inl none, zwi S (zup (zup (zup I (B + 2) 6 (Int32.ofNat (kA X e))) (B + 2) 4 (Int32.ofNat (kA X e + 1))) (B + 2) 5 v)) := by
            intro v
            have e318 := @b_X1_next_318
            refine zat_in zP_X1_next zk_X1_next_318 ?_
            simp (disch := omega) only [e318, zif, zdr, zkb, mK_wi, mN_wi, mJ_wi, mI_wi, sI_wi, beq_self_eq_true, Bool.true_or, Bool.or_true, Bool.or_false, Bool.and_self, Bool.and_true, Bool.true_and, ↓reduceIte, ble_up0, i_cl, i_succ, zix_of, zfl_k, zup_k, zup_q, bk2]
            refine ev_tl zP_X1_next zk_X1_next_321 ?_
            refine zat_in zP_X1_next zk_X1_next_321 ?_
            simp only [e321]
            exact ev_r
          have e313 := @b_X1_next_313
          have e317 := @b_X1_next_317
          have go3 : zAt E (d + 4) 73 313 [some (zr (some (B + 2))), some (zi (Int32.ofNat (kA X e))), some (zi (zsc X (kA X e)))] [zr (some (B + 2))] (zwi S (zup (zup I (B + 2) 6 (Int32.ofNat (kA X e))) (B + 2) 4 (Int32.ofNat (kA X e + 1)))) (Sum.inl none, zwi S (zup (zup (zup I (B + 2) 6 (Int32.ofNat (kA X e))) (B + 2) 4 (Int32.ofNat (kA X e + 1))) (B + 2) 5 (zsc X (kA X e)))) := by
            refine zat_in zP_X1_next zk_X1_next_313 ?_
            simp only [e313]
            exact ev_bk (go _)
          refine zat_in zP_X1_next zk_X1_next_31 ?_
          simp (disch := omega) only [b_X1_next_31, zif, zdr, zkb, mK_wi, mN_wi, mJ_wi, mI_wi, sI_wi, beq_self_eq_true, Bool.true_or, Bool.or_true, Bool.or_false, Bool.and_self, Bool.and_true, Bool.true_and, ↓reduceIte, ble_up0, i_cl, i_succ, zix_of, zfl_k, zup_k, zup_q, bk2]
          refine ev_ci cs ?_
          simp (disch := omega) only [zif, zdr, zkb, mK_wi, mN_wi, mJ_wi, mI_wi, sI_wi, beq_self_eq_true, Bool.true_or, Bool.or_true, Bool.or_false, Bool.and_self, Bool.and_true, Bool.true_and, ↓reduceIte, ble_up0, i_cl, i_succ, zix_of, zfl_k, zup_k, zup_q, bk2, d1]
          refine ev_bk ?_
          refine zat_in zP_X1_next zk_X1_next_67 ?_
          simp (disch := omega) only [b_X1_next_67, zif, zdr, zkb, mK_wi, mN_wi, mJ_wi, mI_wi, sI_wi, beq_self_eq_true, Bool.true_or, Bool.or_true, Bool.or_false, Bool.and_self, Bool.and_true, Bool.true_and, ↓reduceIte, ble_up0, i_cl, i_succ, zix_of, zfl_k, zup_k, zup_q, bk2]
          refine ev_ci cm ?_
          simp (disch := omega) only [zif, zdr, zkb, mK_wi, mN_wi, mJ_wi, mI_wi, sI_wi, beq_self_eq_true, Bool.true_or, Bool.or_true, Bool.or_false, Bool.and_self, Bool.and_true, Bool.true_and, ↓reduceIte, ble_up0, i_cl, i_succ, zix_of, zfl_k, zup_k, zup_q, bk2, d2]
          refine ev_bk ?_
          refine zat_in zP_X1_next zk_X1_next_195 ?_
          simp (disch := omega) only [b_X1_next_195, zif, zdr, zkb, mK_wi, mN_wi, mJ_wi, mI_wi, sI_wi, beq_self_eq_true, Bool.true_or, Bool.or_true, Bool.or_false, Bool.and_self, Bool.and_true, Bool.true_and, ↓reduceIte, ble_up0, i_cl, i_succ, zix_of, zfl_k, zup_k, zup_q, bk2]
          refine ev_ci cd ?_
          simp (disch := omega) only [zif, zdr, zkb, mK_wi, mN_wi, mJ_wi, mI_wi, sI_wi, beq_self_eq_true, Bool.true_or, Bool.or_true, Bool.or_false, Bool.and_self, Bool.and_true, Bool.true_and, ↓reduceIte, ble_up0, i_cl, i_succ, zix_of, zfl_k, zup_k, zup_q, bk2, d3]
          refine ev_bk ?_
          have e294 := @b_X1_next_294
          refine zat_in zP_X1_next zk_X1_next_294 ?_
          simp only [e294]
          unfold sgn3
          refine ev_th _ (fun q => ?_) (fun q => ?_)
          · rw [if_pos q]
            rw [q] at go3 ⊢
            exact ev_bk go3
          · rw [if_neg q]
            refine ev_th _ (fun q => ?_) (fun q => ?_)
            · rw [if_pos q]
              rw [q] at go3 ⊢
              exact ev_bk go3
            · rw [if_neg q]
              refine ev_th _ (fun q => ?_) (fun q => ?_)
              · rw [if_pos q]
                rw [q] at go3 ⊢
                exact ev_tl zP_X1_next zk_X1_next_313 go3
              · rw [if_neg q]
                refine ev_bk ?_
                refine zat_in zP_X1_next zk_X1_next_317 ?_
                simp only [e317]
                exact ev_tl zP_X1_next zk_X1_next_318 (go 1)
        · rw [zup_k (by omega), zup_q, k2]
        · rw [zup_q, k1]
        · rw [zup_k (by omega), zup_k (by omega), zup_q]
        · rw [k1] at q
          exact absurd q (ks 3 (Or.inr rfl))
        · rw [k1] at q
          exact absurd q (ks 2 (Or.inl rfl))
      · -- a number
        have d3 := eq_false c3
        have k2 : tE X e = rnD X (X.2 - kA X e) (kA X e) := by unfold tE; rw [if_neg c1, if_pos c2, if_neg c3]
        have k1 : tK X e = if tE X e ≤ kA X e + 4 then 3 else 1 := by unfold tK; rw [if_neg c1, if_pos c2, if_neg c3]
        obtain ⟨I1, a1, b1, g1, n1, f1⟩ := lp_X1_num (E := E) (d := d + 3) (p := kA X e) (ch := zsc X (kA X e)) hB hS hX (X.2 - kA X e) (kA X e) (by omega) (Nat.le_refl _) (zup (zup (zup (zup I (B + 2) 6 (Int32.ofNat (kA X e))) (B + 2) 4 (Int32.ofNat (kA X e + 1))) (B + 2) 7 0) (B + 2) 4 (Int32.ofNat (kA X e))) ((h1.put (by omega) (by omega)).put (by omega) (by omega)) (zup_q _ _ _ _) (fun _ => by rw [zup_k (by omega), zup_q, Nat.sub_self]; rfl)
        rw [← k2] at g1 n1
        have e6 : I1 (B + 2) 6 = Int32.ofNat (kA X e) := by
          rw [f1 _ _ (by omega), zup_k (by omega), zup_k (by omega), zup_k (by omega), zup_q]
        have k3 : tK X e ≠ 2 := by
          rw [k1]
          split <;> decide
        refine ⟨S, zup I1 (B + 2) 5 (tK X e), st _ ?_, ⟨⟨b1.put (by omega) (by omega), hX⟩, (zup_k (by omega)).trans g1, zup_q _ _ _ _, (zup_k (by omega)).trans e6, fun q => ?_, fun q => absurd q k3⟩, fin _ (fun a k q => by rw [zup_k (by omega), f1 _ _ (by omega)]; simp (disch := omega) only [zfl_k, zfl_q, zup_k, zup_q])⟩
        · refine zat_in zP_X1_next zk_X1_next_31 ?_
          simp (disch := omega) only [b_X1_next_31, zif, zdr, zkb, mK_wi, mN_wi, mJ_wi, mI_wi, sI_wi, beq_self_eq_true, Bool.true_or, Bool.or_true, Bool.or_false, Bool.and_self, Bool.and_true, Bool.true_and, ↓reduceIte, ble_up0, i_cl, i_succ, zix_of, zfl_k, zup_k, zup_q, bk2]
          refine ev_ci cs ?_
          simp (disch := omega) only [zif, zdr, zkb, mK_wi, mN_wi, mJ_wi, mI_wi, sI_wi, beq_self_eq_true, Bool.true_or, Bool.or_true, Bool.or_false, Bool.and_self, Bool.and_true, Bool.true_and, ↓reduceIte, ble_up0, i_cl, i_succ, zix_of, zfl_k, zup_k, zup_q, bk2, d1]
          refine ev_bk ?_
          refine zat_in zP_X1_next zk_X1_next_67 ?_
          simp (disch := omega) only [b_X1_next_67, zif, zdr, zkb, mK_wi, mN_wi, mJ_wi, mI_wi, sI_wi, beq_self_eq_true, Bool.true_or, Bool.or_true, Bool.or_false, Bool.and_self, Bool.and_true, Bool.true_and, ↓reduceIte, ble_up0, i_cl, i_succ, zix_of, zfl_k, zup_k, zup_q, bk2]
          refine ev_ci cm ?_
          simp (disch := omega) only [zif, zdr, zkb, mK_wi, mN_wi, mJ_wi, mI_wi, sI_wi, beq_self_eq_true, Bool.true_or, Bool.or_true, Bool.or_false, Bool.and_self, Bool.and_true, Bool.true_and, ↓reduceIte, ble_up0, i_cl, i_succ, zix_of, zfl_k, zup_k, zup_q, bk2, d2]
          refine ev_bk ?_
          refine zat_in zP_X1_next zk_X1_next_195 ?_
          simp (disch := omega) only [b_X1_next_195, zif, zdr, zkb, mK_wi, mN_wi, mJ_wi, mI_wi, sI_wi, beq_self_eq_true, Bool.true_or, Bool.or_true, Bool.or_false, Bool.and_self, Bool.and_true, Bool.true_and, ↓reduceIte, ble_up0, i_cl, i_succ, zix_of, zfl_k, zup_k, zup_q, bk2]
          refine ev_ci cd ?_
          simp (disch := omega) only [zif, zdr, zkb, mK_wi, mN_wi, mJ_wi, mI_wi, sI_wi, beq_self_eq_true, Bool.true_or, Bool.or_true, Bool.or_false, Bool.and_self, Bool.and_true, Bool.true_and, ↓reduceIte, ble_up0, i_cl, i_succ, zix_of, zfl_k, zup_k, zup_q, bk2, d3]
          refine ev_tl zP_X1_next zk_X1_next_212 ?_
          refine a1 _ ?_
          have go : ∀ v : Int32, zAt E (d + 4) 73 288 [some (zr (some (B + 2))), some (zi (Int32.ofNat (kA X e))), some (zi (zsc X (kA X e)))] [zi v, zr (some (B + 2))] (zwi S I1) (Sum.inl none, zwi S (zup I1 (B + 2) 5 v)) := by
            intro v
            refine zat_in zP_X1_next zk_X1_next_288 ?_
            simp (disch := omega) only [b_X1_next_288, zif, zdr, zkb, mK_wi, mN_wi, mJ_wi, mI_wi, sI_wi, beq_self_eq_true, Bool.true_or, Bool.or_true, Bool.or_false, Bool.and_self, Bool.and_true, Bool.true_and, ↓reduceIte, ble_up0, i_cl, i_succ, zix_of, zfl_k, zup_k, zup_q, bk2]
            refine ev_bk ?_
            refine zat_in zP_X1_next zk_X1_next_321 ?_
            simp only [e321]
            exact ev_r
          rw [k1]
          by_cases c4 : tE X e ≤ kA X e + 4
          · rw [if_pos c4]
            have d4 : (tE X e - kA X e ≤ 4) = True := eq_true (by omega)
            have e287 := @b_X1_next_287
            refine zat_in zP_X1_next zk_X1_next_272 ?_
            simp (disch := omega) only [b_X1_next_272, zif, zdr, zkb, mK_wi, mN_wi, mJ_wi, mI_wi, sI_wi, beq_self_eq_true, Bool.true_or, Bool.or_true, Bool.or_false, Bool.and_self, Bool.and_true, Bool.true_and, ↓reduceIte, ble_up0, i_cl, i_succ, zix_of, zfl_k, zup_k, zup_q, bk2, g1, i_subL, i_4le, d4]
            refine ev_bk ?_
            refine zat_in zP_X1_next zk_X1_next_287 ?_
            simp only [e287]
            exact ev_tl zP_X1_next zk_X1_next_288 (go 3)
          · rw [if_neg c4]
            have d4 : (tE X e - kA X e ≤ 4) = False := eq_false (by omega)
            refine zat_in zP_X1_next zk_X1_next_272 ?_
            simp (disch := omega) only [b_X1_next_272, zif, zdr, zkb, mK_wi, mN_wi, mJ_wi, mI_wi, sI_wi, beq_self_eq_true, Bool.true_or, Bool.or_true, Bool.or_false, Bool.and_self, Bool.and_true, Bool.true_and, ↓reduceIte, ble_up0, i_cl, i_succ, zix_of, zfl_k, zup_k, zup_q, bk2, g1, i_subL, i_4le, d4]
            exact ev_bk (go 1)
        · rw [zup_k (by omega)]
          exact n1 (tN_i q).2.2.2
    · -- a word
      have d2 := eq_false c2
      have k2 : tE X e = rnL X (X.2 - kA X e) (kA X e) := by unfold tE; rw [if_neg c1, if_neg c2]
      have k1 : tK X e = if tE X e ≤ kA X e + 8 then 2 else 1 := by unfold tK; rw [if_neg c1, if_neg c2]
      obtain ⟨I1, a1, b1, g1, n1, f1⟩ := lp_X1_word (E := E) (d := d + 3) (p := kA X e) (ch := zsc X (kA X e)) hB hS hX (X.2 - kA X e) (kA X e) (by omega) (Nat.le_refl _) (zup (zup (zup I (B + 2) 6 (Int32.ofNat (kA X e))) (B + 2) 4 (Int32.ofNat (kA X e + 1))) (B + 2) 4 (Int32.ofNat (kA X e))) (h1.put (by omega) (by omega)) (zup_q _ _ _ _) (fun j q _ => by omega)
      rw [← k2] at g1 n1
      have e6 : I1 (B + 2) 6 = Int32.ofNat (kA X e) := by
        rw [f1 _ _ (by omega) (by omega), zup_k (by omega), zup_k (by omega), zup_q]
      have to137 : ∀ r, zAt E (d + 4) 73 137 [some (zr (some (B + 2))), some (zi (Int32.ofNat (kA X e))), some (zi (zsc X (kA X e)))] [] (zwi S I1) r → zCl E (d + 4) 73 [zr (some (B + 2))] (zwi S I) r := by
        intro r hr
        refine st _ ?_
        refine zat_in zP_X1_next zk_X1_next_31 ?_
        simp (disch := omega) only [b_X1_next_31, zif, zdr, zkb, mK_wi, mN_wi, mJ_wi, mI_wi, sI_wi, beq_self_eq_true, Bool.true_or, Bool.or_true, Bool.or_false, Bool.and_self, Bool.and_true, Bool.true_and, ↓reduceIte, ble_up0, i_cl, i_succ, zix_of, zfl_k, zup_k, zup_q, bk2]
        refine ev_ci cs ?_
        simp (disch := omega) only [zif, zdr, zkb, mK_wi, mN_wi, mJ_wi, mI_wi, sI_wi, beq_self_eq_true, Bool.true_or, Bool.or_true, Bool.or_false, Bool.and_self, Bool.and_true, Bool.true_and, ↓reduceIte, ble_up0, i_cl, i_succ, zix_of, zfl_k, zup_k, zup_q, bk2, d1]
        refine ev_bk ?_
        refine zat_in zP_X1_next zk_X1_next_67 ?_
        simp (disch := omega) only [b_X1_next_67, zif, zdr, zkb, mK_wi, mN_wi, mJ_wi, mI_wi, sI_wi, beq_self_eq_true, Bool.true_or, Bool.or_true, Bool.or_false, Bool.and_self, Bool.and_true, Bool.true_and, ↓reduceIte, ble_up0, i_cl, i_succ, zix_of, zfl_k, zup_k, zup_q, bk2]
        refine ev_ci cm ?_
        simp (disch := omega) only [zif, zdr, zkb, mK_wi, mN_wi, mJ_wi, mI_wi, sI_wi, beq_self_eq_true, Bool.true_or, Bool.or_true, Bool.or_false, Bool.and_self, Bool.and_true, Bool.true_and, ↓reduceIte, ble_up0, i_cl, i_succ, zix_of, zfl_k, zup_k, zup_q, bk2, d2]
        refine ev_tl zP_X1_next zk_X1_next_79 ?_
        exact a1 r hr
      have fI : ∀ a k, ¬ (B + 2 ≤ a ∧ a ≤ B + 4) → I1 a k = I a k := fun a k q => by
        rw [f1 _ _ (by omega) (by omega)]
        simp (disch := omega) only [zfl_k, zfl_q, zup_k, zup_q]
      by_cases c4 : tE X e ≤ kA X e + 8
      · have k3 : tK X e = 2 := by rw [k1, if_pos c4]
        have d4 : (tE X e - kA X e ≤ 8) = True := eq_true (by omega)
        obtain ⟨l8, l1⟩ := tL_8 k3
        have hl : tE X e - kA X e = tL X e := rfl
        have e5 : zup I1 (B + 2) 5 2 (B + 2) 5 = 2 := zup_q _ _ _ _
        -- the new text
        have kk : ∀ a, mK (zal S 17 0 4) a = if a = mS S then 17 else mK S a := fun _ => rfl
        have nk : ∀ a, mN (zal S 17 0 4) a = if a = mS S then 0 else mN S a := fun _ => rfl
        have jk : ∀ a k, mJ (zal S 17 0 4) a k = if a = mS S then none else mJ S a k := fun _ _ => rfl
        obtain ⟨I2, a2, p2, q2, f2⟩ := sp_J3_init (E := E) (d := d) (S := zal S 17 0 4) (I := zwn (zup I1 (B + 2) 5 2) (mS S)) (s := mS S) (a := B + 4) (f := tW X e) (l := tL X e) (by omega) (by rw [kk, if_pos rfl]) (show mS S < mS S + 1 by omega) (show B + 4 < mS S + 1 by omega) (by omega) (by rw [kk, if_neg (by omega)]; exact hS.2.2.2.2.2.1) (by rw [nk, if_neg (by omega)]; exact hS.2.2.2.2.2.2) l8 l1 (tW_l k3) (fun j hj => by
          rw [zwn_k (by omega), zup_k (by omega)]
          exact n1 j (by unfold tL at hj; omega) (by omega))
        have ms1 : mS (zal S 17 0 4) = mS S + 1 := rfl
        rw [ms1] at a2 p2 f2
        have K3 : ∀ a, mK (sJ (sJ (zal (zal S 17 0 4) 102 (tL X e) (tL X e)) (mS S) 0 (some (mS S + 1))) (B + 2) 8 (some (mS S))) a = if a = mS S + 1 then 102 else if a = mS S then 17 else mK S a := fun _ => rfl
        have N3 : ∀ a, mN (sJ (sJ (zal (zal S 17 0 4) 102 (tL X e) (tL X e)) (mS S) 0 (some (mS S + 1))) (B + 2) 8 (some (mS S))) a = if a = mS S + 1 then tL X e else if a = mS S then 0 else mN S a := fun _ => rfl
        have J3 : ∀ a k, mJ (sJ (sJ (zal (zal S 17 0 4) 102 (tL X e) (tL X e)) (mS S) 0 (some (mS S + 1))) (B + 2) 8 (some (mS S))) a k = if a = B + 2 ∧ k = 8 then some (mS S) else if a = mS S ∧ k = 0 then some (mS S + 1) else if a = mS S + 1 then none else if a = mS S then none else mJ S a k := fun _ _ => rfl
        have fI2 : ∀ a k, a < mS S → I2 a k = zup I1 (B + 2) 5 2 a k := fun a k q => by
          rw [f2 _ _ (by omega) (by omega), zwn_k (by omega)]
        have zs : ∀ k, k ≠ 1 → I2 (mS S) k = 0 := fun k q => by
          rw [f2 _ _ (by omega) (by omega), zwn_q rfl]
        refine ⟨sJ (sJ (zal (zal S 17 0 4) 102 (tL X e) (tL X e)) (mS S) 0 (some (mS S + 1))) (B + 2) 8 (some (mS S)), I2, to137 _ ?_, ⟨⟨⟨?_, fun j hj => ?_⟩, hX⟩, ?_, ?_, ?_, fun q => ?_, fun _ => ?_⟩, ⟨⟨?_, ?_, ?_⟩, fun a ha => ?_, fun a k ha hk => ?_, fun a k ha hk _ => ?_, fun a ha => ?_⟩⟩
        rotate_left
        · rw [fI2 _ _ (by omega), zup_k (by omega)]
          exact b1.1
        · rw [fI2 _ _ (by omega), zup_k (by omega)]
          exact b1.2 j hj
        · rw [fI2 _ _ (by omega), zup_k (by omega)]
          exact g1
        · rw [fI2 _ _ (by omega), zup_q, k3]
        · rw [fI2 _ _ (by omega), zup_k (by omega)]
          exact e6
        · rw [k3] at q
          exact absurd q (by decide)
        · refine ⟨mS S, mS S + 1, ?_, by omega, by omega, show mS S + 1 < mS S + 1 + 1 by omega, ⟨?_, ?_, q2, ?_, ?_, p2⟩, Or.inl (zs 2 (by omega)), Or.inl (zs 3 (by omega))⟩
          · rw [J3, if_pos ⟨rfl, rfl⟩]
          · rw [K3, if_neg (by omega), if_pos rfl]
          · rw [J3, if_neg (by omega), if_pos ⟨rfl, rfl⟩]
          · rw [K3, if_pos rfl]
          · rw [N3, if_pos rfl]
        · show mS S ≤ mS S + 1 + 1
          omega
        · show mS S + 1 + 1 ≤ mS S + 2
          omega
        · show mU S + 4 + tL X e ≤ mU S + 12
          omega
        · exact ⟨by rw [K3, if_neg (by omega), if_neg (by omega)], by rw [N3, if_neg (by omega), if_neg (by omega)]⟩
        · rw [J3, if_neg hk, if_neg (by omega), if_neg (by omega), if_neg (by omega)]
        · rw [fI2 _ _ ha, zup_k (by omega)]
          exact fI a k hk
        · have ha : mS S + 1 + 1 ≤ a := ha
          rw [K3, if_neg (by omega), if_neg (by omega)]
          exact hz a (by omega)
        · have e153 := @b_X1_next_153
          refine zat_in zP_X1_next zk_X1_next_137 ?_
          simp (disch := omega) only [b_X1_next_137, zif, zdr, zkb, mK_wi, mN_wi, mJ_wi, mI_wi, sI_wi, beq_self_eq_true, Bool.true_or, Bool.or_true, Bool.or_false, Bool.and_self, Bool.and_true, Bool.true_and, ↓reduceIte, ble_up0, i_cl, i_succ, zix_of, zfl_k, zup_k, zup_q, bk2, g1, i_subL, i_8le, d4]
          refine ev_bk ?_
          refine zat_in zP_X1_next zk_X1_next_153 ?_
          simp only [e153]
          refine ev_tl zP_X1_next zk_X1_next_154 ?_
          have kb : mK (zal S 17 0 4) (B + 2) = 2 := by rw [kk, if_neg (by omega)]; exact bk2
          have jb : mJ (zal S 17 0 4) (B + 2) 2 = some (B + 4) := by rw [jk, if_neg (by omega)]; exact br2
          have eb : zwn (zup I1 (B + 2) 5 2) (mS S) (B + 2) 4 = Int32.ofNat (tE X e) := by rw [zwn_k (by omega), zup_k (by omega)]; exact g1
          have K2 : mK (sJ (zal (zal S 17 0 4) 102 (tL X e) (tL X e)) (mS S) 0 (some (mS S + 1))) (B + 2) = 2 := by
            show (if B + 2 = mS S + 1 then 102 else if B + 2 = mS S then 17 else mK S (B + 2)) = 2
            rw [if_neg (by omega), if_neg (by omega)]
            exact bk2
          refine zat_in zP_X1_next zk_X1_next_154 ?_
          simp (disch := omega) only [b_X1_next_154, zif, zdr, zkb, mK_wi, mN_wi, mJ_wi, mI_wi, sI_wi, beq_self_eq_true, Bool.true_or, Bool.or_true, Bool.or_false, Bool.and_self, Bool.and_true, Bool.true_and, ↓reduceIte, ble_up0, i_cl, i_succ, zix_of, zfl_k, zup_k, zup_q, bk2, mS_wi, al_wi, kb, jb, eb, i_subL, hl]
          refine ev_cv a2 ?_
          refine ev_bk ?_
          refine zat_in zP_X1_next zk_X1_next_189 ?_
          simp (disch := omega) only [b_X1_next_189, zif, zdr, zkb, mK_wi, mN_wi, mJ_wi, mI_wi, sI_wi, beq_self_eq_true, Bool.true_or, Bool.or_true, Bool.or_false, Bool.and_self, Bool.and_true, Bool.true_and, ↓reduceIte, ble_up0, i_cl, i_succ, zix_of, zfl_k, zup_k, zup_q, K2, sJ_wi]
          refine ev_bk ?_
          refine zat_in zP_X1_next zk_X1_next_321 ?_
          simp only [e321]
          exact ev_r
      · have k3 : tK X e = 1 := by rw [k1, if_neg c4]
        have d4 : (tE X e - kA X e ≤ 8) = False := eq_false (by omega)
        have d5 : ((1 : Int32) = 2) = False := eq_false (by decide)
        have e187 := @b_X1_next_187
        have J3 : ∀ a k, mJ (sJ S (B + 2) 8 (some (E.2.1 21))) a k = if a = B + 2 ∧ k = 8 then some (E.2.1 21) else mJ S a k := fun _ _ => rfl
        refine ⟨sJ S (B + 2) 8 (some (E.2.1 21)), zup I1 (B + 2) 5 1, to137 _ ?_, ⟨⟨b1.put (by omega) (by omega), hX⟩, (zup_k (by omega)).trans g1, (zup_q _ _ _ _).trans k3.symm, (zup_k (by omega)).trans e6, fun q => ?_, fun q => ?_⟩, ⟨Nat.le_refl _, show mS S ≤ mS S + 2 by omega, show mU S ≤ mU S + 12 by omega⟩, fun _ _ => ⟨rfl, rfl⟩, fun a k _ hk => (J3 a k).trans (if_neg hk), fun a k _ hk _ => (zup_k (by omega)).trans (fI a k hk), hz⟩
        · refine zat_in zP_X1_next zk_X1_next_137 ?_
          simp (disch := omega) only [b_X1_next_137, zif, zdr, zkb, mK_wi, mN_wi, mJ_wi, mI_wi, sI_wi, beq_self_eq_true, Bool.true_or, Bool.or_true, Bool.or_false, Bool.and_self, Bool.and_true, Bool.true_and, ↓reduceIte, ble_up0, i_cl, i_succ, zix_of, zfl_k, zup_k, zup_q, bk2, g1, i_subL, i_8le, d4]
          refine ev_bk ?_
          refine zat_in zP_X1_next zk_X1_next_154 ?_
          simp (disch := omega) only [b_X1_next_154, zif, zdr, zkb, mK_wi, mN_wi, mJ_wi, mI_wi, sI_wi, beq_self_eq_true, Bool.true_or, Bool.or_true, Bool.or_false, Bool.and_self, Bool.and_true, Bool.true_and, ↓reduceIte, ble_up0, i_cl, i_succ, zix_of, zfl_k, zup_k, zup_q, bk2, d5]
          refine ev_bk ?_
          refine zat_in zP_X1_next zk_X1_next_187 ?_
          simp only [e187]
          refine ev_tl zP_X1_next zk_X1_next_189 ?_
          refine zat_in zP_X1_next zk_X1_next_189 ?_
          simp (disch := omega) only [b_X1_next_189, zif, zdr, zkb, mK_wi, mN_wi, mJ_wi, mI_wi, sI_wi, beq_self_eq_true, Bool.true_or, Bool.or_true, Bool.or_false, Bool.and_self, Bool.and_true, Bool.true_and, ↓reduceIte, ble_up0, i_cl, i_succ, zix_of, zfl_k, zup_k, zup_q, bk2, sJ_wi]
          refine ev_bk ?_
          refine zat_in zP_X1_next zk_X1_next_321 ?_
          simp only [e321]
          exact ev_r
        · rw [k3] at q
          exact absurd q (by decide)
        · rw [k3] at q
          exact absurd q (by decide)
end
