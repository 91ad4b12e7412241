/-! ===== the next token (model) ===== -/
set_option maxRecDepth 100000
def zwg (S : zM) (g : Nat → Nat → Int64) : zM := (mK S, mN S, mJ S, mI S, g, mS S, mU S)
section
variable {S : zM} {g : Nat → Nat → Int64} {I : Nat → Nat → Int32} {a k : Nat} {v : Int64}
theorem wg_rf (S : zM) : zwg S (mG S) = S := rfl
theorem mK_wg : mK (zwg S g) = mK S := rfl
theorem mN_wg : mN (zwg S g) = mN S := rfl
theorem mJ_wg : mJ (zwg S g) = mJ S := rfl
theorem mG_wg : mG (zwg S g) = g := rfl
theorem mS_wg : mS (zwg S g) = mS S := rfl
theorem mU_wg : mU (zwg S g) = mU S := rfl
theorem wg_wi : sG (zwi (zwg S g) I) a k v = zwi (zwg S (zup g a k v)) I := rfl
end
theorem l26 : ∀ v, v < 123 → 97 ≤ v → Int32.toInt64 ((Int32.ofNat v - 97) + 1) = Int64.ofNat (v - 96) := by decide +kernel
def mso (k : Int32) : Int32 := if k = 0 then 1 else if k = 1 then 0 else if k = 2 then 2 else if k = 3 then 3 else 4
def msg (k : Int32) : Int32 := if k = 0 ∨ k = 1 ∨ k = 2 ∨ k = 3 then 0 else k
/-- the model's reading cells -/
def mRS (S : zM) (w : Nat) : Prop := mK S w = 7 ∧ mJ S w 22 = some (w + 20) ∧ mK S (w + 20) = 102 ∧ mN S (w + 20) = 400
def mRI (I : Nat → Nat → Int32) (w : Nat) (X : zTx) : Prop := I w 24 = Int32.ofNat X.2 ∧ ∀ j, j < 400 → I (w + 20) j = X.1 j
def mTk (I : Nat → Nat → Int32) (g : Nat → Nat → Int64) (w : Nat) (X : zTx) (e : Nat) : Prop := (mRI I w X ∧ X.2 ≤ 400) ∧ (tK X e ≠ 1 → I w 25 = Int32.ofNat (tE X e)) ∧ I w 26 = mso (tK X e) ∧ I w 27 = Int32.ofNat (kA X e) ∧ I w 28 = msg (tK X e) ∧ (tK X e = 3 → I w 29 = tN X e) ∧ (tK X e = 2 → g w 30 = Int64.ofNat (tV X e))
/-- ints of the model's reading -/
def mFr (w : Nat) (I I' : Nat → Nat → Int32) : Prop := ∀ a k, ¬ (a = w ∧ 25 ≤ k ∧ k ≤ 29) → I' a k = I a k
section
variable {E : zE} {d w p : Nat} {S : zM} {g : Nat → Nat → Int64} {I : Nat → Nat → Int32} {X : zTx}
theorem mRI.put {a k : Nat} {v : Int32} (h : mRI I w X) (h1 : a = w) (h2 : k ≠ 24) : mRI (zup I a k v) w X := ⟨(zup_k (by omega)).trans h.1, fun j hj => (zup_k (by omega)).trans (h.2 j hj)⟩
theorem sp_X6_byteX (hS : mRS S w) (hX : X.2 ≤ 400) (h : mRI I w X) {k : Nat} (hk : k < 100000) : zCl E d 128 [zr (some w), zi (Int32.ofNat k)] (zwi (zwg S g) I) (Sum.inl (some (zi (zsc X k))), zwi (zwg S g) I) :=
  sp_X6_byteAt (S := zwg S g) hS.1 hS.2.1 hS.2.2.1 hS.2.2.2 h.1 hX hk h.2
theorem lp_X6_skip (hB : E.1 ≤ w) (hS : mRS S w) (hX : X.2 ≤ 400) : ∀ c k : Nat, k + c = X.2 → ∀ I, mRI I w X → I w 25 = Int32.ofNat k → ∃ I', (∀ r, zAt E (d + 1) 127 39 [some (zr (some w)), none, none] [] (zwi (zwg S g) I') r → zAt E (d + 1) 127 0 [some (zr (some w)), none, none] [] (zwi (zwg S g) I) r) ∧ mRI I' w X ∧ I' w 25 = Int32.ofNat (skp X c k) ∧ ∀ a i, ¬ (a = w ∧ i = 25) → I' a i = I a i := by
  have w0 := hS.1
  intro c
  induction c with
  | zero =>
    intro k hk I h e4
    have c1 : zsc X k = -1 := zsc_n (by omega)
    have d1 : ((-1 : Int32) = 32) = False := eq_false (by decide)
    have d2 : ((-1 : Int32) = 10) = False := eq_false (by decide)
    have cs := sp_X6_byteX (E := E) (d := d) (g := g) hS hX h (show k < 100000 by omega)
    rw [c1] at cs
    refine ⟨I, fun r hr => ?_, h, e4, fun _ _ _ => rfl⟩
    refine zat_in zP_X6_next zk_X6_next_0 ?_
    simp (disch := omega) only [b_X6_next_0, zif, zdr, zkb, mK_wi, mN_wi, mJ_wi, mI_wi, sI_wi, beq_self_eq_true, Bool.true_or, Bool.or_true, Bool.or_false, Bool.and_self, Bool.and_true, Bool.true_and, ↓reduceIte, ble_up0, i_cl, i_succ, zix_of, zfl_k, zup_k, zup_q, w0, mK_wg, e4]
    refine ev_ci cs ?_
    simp (disch := omega) only [zif, zdr, zkb, mK_wi, mN_wi, mJ_wi, mI_wi, sI_wi, beq_self_eq_true, Bool.true_or, Bool.or_true, Bool.or_false, Bool.and_self, Bool.and_true, Bool.true_and, ↓reduceIte, ble_up0, i_cl, i_succ, zix_of, zfl_k, zup_k, zup_q, w0, mK_wg, e4, d1]
    refine ev_ci cs ?_
    simp (disch := omega) only [zif, zdr, zkb, mK_wi, mN_wi, mJ_wi, mI_wi, sI_wi, beq_self_eq_true, Bool.true_or, Bool.or_true, Bool.or_false, Bool.and_self, Bool.and_true, Bool.true_and, ↓reduceIte, ble_up0, i_cl, i_succ, zix_of, zfl_k, zup_k, zup_q, d2]
    exact ev_bk hr
  | succ c ih =>
    intro k hk I h e4
    have cs := sp_X6_byteX (E := E) (d := d) (g := g) hS hX h (show k < 100000 by omega)
    have e26 := @b_X6_next_26
    unfold skp
    by_cases c1 : zsc X k = 32
    · rw [if_pos (Or.inl c1)]
      have d1 := eq_true c1
      obtain ⟨I1, a1, p1, q1, f1⟩ := ih (k + 1) (by omega) (zup I w 25 (Int32.ofNat (k + 1))) (h.put rfl (by omega)) (zup_q _ _ _ _)
      refine ⟨I1, fun r hr => ?_, p1, q1, fun a i q => by rw [f1 a i q, zup_k (by omega)]⟩
      refine zat_in zP_X6_next zk_X6_next_0 ?_
      simp (disch := omega) only [b_X6_next_0, zif, zdr, zkb, mK_wi, mN_wi, mJ_wi, mI_wi, sI_wi, beq_self_eq_true, Bool.true_or, Bool.or_true, Bool.or_false, Bool.and_self, Bool.and_true, Bool.true_and, ↓reduceIte, ble_up0, i_cl, i_succ, zix_of, zfl_k, zup_k, zup_q, w0, mK_wg, e4]
      refine ev_ci cs ?_
      simp (disch := omega) only [zif, zdr, zkb, mK_wi, mN_wi, mJ_wi, mI_wi, sI_wi, beq_self_eq_true, Bool.true_or, Bool.or_true, Bool.or_false, Bool.and_self, Bool.and_true, Bool.true_and, ↓reduceIte, ble_up0, i_cl, i_succ, zix_of, zfl_k, zup_k, zup_q, d1]
      refine ev_bk ?_
      refine zat_in zP_X6_next zk_X6_next_26 ?_
      simp (disch := omega) only [e26, zif, zdr, zkb, mK_wi, mN_wi, mJ_wi, mI_wi, sI_wi, beq_self_eq_true, Bool.true_or, Bool.or_true, Bool.or_false, Bool.and_self, Bool.and_true, Bool.true_and, ↓reduceIte, ble_up0, i_cl, i_succ, zix_of, zfl_k, zup_k, zup_q, w0, mK_wg, e4]
      exact ev_bk (a1 r hr)
    · have d1 := eq_false c1
      by_cases c2 : zsc X k = 10
      · rw [if_pos (Or.inr c2)]
        have d2 := eq_true c2
        obtain ⟨I1, a1, p1, q1, f1⟩ := ih (k + 1) (by omega) (zup I w 25 (Int32.ofNat (k + 1))) (h.put rfl (by omega)) (zup_q _ _ _ _)
        refine ⟨I1, fun r hr => ?_, p1, q1, fun a i q => by rw [f1 a i q, zup_k (by omega)]⟩
        refine zat_in zP_X6_next zk_X6_next_0 ?_
        simp (disch := omega) only [b_X6_next_0, zif, zdr, zkb, mK_wi, mN_wi, mJ_wi, mI_wi, sI_wi, beq_self_eq_true, Bool.true_or, Bool.or_true, Bool.or_false, Bool.and_self, Bool.and_true, Bool.true_and, ↓reduceIte, ble_up0, i_cl, i_succ, zix_of, zfl_k, zup_k, zup_q, w0, mK_wg, e4]
        refine ev_ci cs ?_
        simp (disch := omega) only [zif, zdr, zkb, mK_wi, mN_wi, mJ_wi, mI_wi, sI_wi, beq_self_eq_true, Bool.true_or, Bool.or_true, Bool.or_false, Bool.and_self, Bool.and_true, Bool.true_and, ↓reduceIte, ble_up0, i_cl, i_succ, zix_of, zfl_k, zup_k, zup_q, w0, mK_wg, e4, d1]
        refine ev_ci cs ?_
        simp (disch := omega) only [zif, zdr, zkb, mK_wi, mN_wi, mJ_wi, mI_wi, sI_wi, beq_self_eq_true, Bool.true_or, Bool.or_true, Bool.or_false, Bool.and_self, Bool.and_true, Bool.true_and, ↓reduceIte, ble_up0, i_cl, i_succ, zix_of, zfl_k, zup_k, zup_q, d2]
        refine ev_tl zP_X6_next zk_X6_next_26 ?_
        refine zat_in zP_X6_next zk_X6_next_26 ?_
        simp (disch := omega) only [e26, zif, zdr, zkb, mK_wi, mN_wi, mJ_wi, mI_wi, sI_wi, beq_self_eq_true, Bool.true_or, Bool.or_true, Bool.or_false, Bool.and_self, Bool.and_true, Bool.true_and, ↓reduceIte, ble_up0, i_cl, i_succ, zix_of, zfl_k, zup_k, zup_q, w0, mK_wg, e4]
        exact ev_bk (a1 r hr)
      · rw [if_neg (by intro q; rcases q with q | q; exact c1 q; exact c2 q)]
        have d2 := eq_false c2
        refine ⟨I, fun r hr => ?_, h, e4, fun _ _ _ => rfl⟩
        refine zat_in zP_X6_next zk_X6_next_0 ?_
        simp (disch := omega) only [b_X6_next_0, zif, zdr, zkb, mK_wi, mN_wi, mJ_wi, mI_wi, sI_wi, beq_self_eq_true, Bool.true_or, Bool.or_true, Bool.or_false, Bool.and_self, Bool.and_true, Bool.true_and, ↓reduceIte, ble_up0, i_cl, i_succ, zix_of, zfl_k, zup_k, zup_q, w0, mK_wg, e4]
        refine ev_ci cs ?_
        simp (disch := omega) only [zif, zdr, zkb, mK_wi, mN_wi, mJ_wi, mI_wi, sI_wi, beq_self_eq_true, Bool.true_or, Bool.or_true, Bool.or_false, Bool.and_self, Bool.and_true, Bool.true_and, ↓reduceIte, ble_up0, i_cl, i_succ, zix_of, zfl_k, zup_k, zup_q, w0, mK_wg, e4, d1]
        refine ev_ci cs ?_
        simp (disch := omega) only [zif, zdr, zkb, mK_wi, mN_wi, mJ_wi, mI_wi, sI_wi, beq_self_eq_true, Bool.true_or, Bool.or_true, Bool.or_false, Bool.and_self, Bool.and_true, Bool.true_and, ↓reduceIte, ble_up0, i_cl, i_succ, zix_of, zfl_k, zup_k, zup_q, d2]
        exact ev_bk hr
theorem lp_X6_word {ch : Int32} (hB : E.1 ≤ w) (hS : mRS S w) (hX : X.2 ≤ 400) : ∀ c k : Nat, k + c = X.2 → p ≤ k → ∀ I g, mRI I w X → I w 25 = Int32.ofNat k → g w 30 = Int64.ofNat (bs (fun j => zsc X (p + j)) (if k - p < 8 then k - p else 8)) → ∃ I' g', (∀ r, zAt E (d + 1) 127 156 [some (zr (some w)), some (zi ch), some (zi (Int32.ofNat (rnL X c k - p)))] [] (zwi (zwg S g') I') r → zAt E (d + 1) 127 93 [some (zr (some w)), some (zi ch), some (zi (Int32.ofNat (k - p)))] [] (zwi (zwg S g) I) r) ∧ mRI I' w X ∧ I' w 25 = Int32.ofNat (rnL X c k) ∧ g' w 30 = Int64.ofNat (bs (fun j => zsc X (p + j)) (if rnL X c k - p < 8 then rnL X c k - p else 8)) ∧ ∀ a i, ¬ (a = w ∧ i = 25) → I' a i = I a i := by
  have w0 := hS.1
  intro c
  induction c with
  | zero =>
    intro k hk hp I g h e4 hg
    have c1 : zsc X k = -1 := zsc_n (by omega)
    have cs := sp_X6_byteX (E := E) (d := d) (g := g) hS hX h (show k < 100000 by omega)
    have cm := sp_X6_isLetter (E := E) (d := d) (S := zwg S g) (I := I) (c := zsc X k)
    rw [c1] at cs cm
    rw [sml_1] at cm
    refine ⟨I, g, fun r hr => ?_, h, e4, hg, fun _ _ _ => rfl⟩
    refine zat_in zP_X6_next zk_X6_next_93 ?_
    simp (disch := omega) only [b_X6_next_93, zif, zdr, zkb, mK_wi, mN_wi, mJ_wi, mI_wi, sI_wi, beq_self_eq_true, Bool.true_or, Bool.or_true, Bool.or_false, Bool.and_self, Bool.and_true, Bool.true_and, ↓reduceIte, ble_up0, i_cl, i_succ, zix_of, zfl_k, zup_k, zup_q, w0, mK_wg, e4]
    refine ev_ci cs ?_
    refine ev_ci cm ?_
    simp (disch := omega) only [zif, zdr, zkb, mK_wi, mN_wi, mJ_wi, mI_wi, sI_wi, beq_self_eq_true, Bool.true_or, Bool.or_true, Bool.or_false, Bool.and_self, Bool.and_true, Bool.true_and, ↓reduceIte, ble_up0, i_cl, i_succ, zix_of, zfl_k, zup_k, zup_q]
    exact ev_bk hr
  | succ c ih =>
    intro k hk hp I g h e4 hg
    have cs := sp_X6_byteX (E := E) (d := d) (g := g) hS hX h (show k < 100000 by omega)
    have cm := sp_X6_isLetter (E := E) (d := d) (S := zwg S g) (I := I) (c := zsc X k)
    have e140 := @b_X6_next_140
    have ek : Int32.ofNat (k - p) + 1 = Int32.ofNat (k + 1 - p) := by rw [i_succ, show k - p + 1 = k + 1 - p by omega]
    unfold rnL
    by_cases c1 : sml (zsc X k) = 0
    · rw [if_pos c1]
      rw [c1] at cm
      refine ⟨I, g, fun r hr => ?_, h, e4, hg, fun _ _ _ => rfl⟩
      refine zat_in zP_X6_next zk_X6_next_93 ?_
      simp (disch := omega) only [b_X6_next_93, zif, zdr, zkb, mK_wi, mN_wi, mJ_wi, mI_wi, sI_wi, beq_self_eq_true, Bool.true_or, Bool.or_true, Bool.or_false, Bool.and_self, Bool.and_true, Bool.true_and, ↓reduceIte, ble_up0, i_cl, i_succ, zix_of, zfl_k, zup_k, zup_q, w0, mK_wg, e4]
      refine ev_ci cs ?_
      refine ev_ci cm ?_
      simp (disch := omega) only [zif, zdr, zkb, mK_wi, mN_wi, mJ_wi, mI_wi, sI_wi, beq_self_eq_true, Bool.true_or, Bool.or_true, Bool.or_false, Bool.and_self, Bool.and_true, Bool.true_and, ↓reduceIte, ble_up0, i_cl, i_succ, zix_of, zfl_k, zup_k, zup_q]
      exact ev_bk hr
    · rw [if_neg c1]
      have d1 := eq_false c1
      by_cases c2 : 8 ≤ k - p
      · obtain ⟨I1, g1, a1, p1, q1, s1, t1⟩ := ih (k + 1) (by omega) (by omega) (zup I w 25 (Int32.ofNat (k + 1))) g (h.put rfl (by omega)) (zup_q _ _ _ _) (by rw [if_neg (by omega)]; rw [if_neg (by omega)] at hg; exact hg)
        refine ⟨I1, g1, fun r hr => ?_, p1, q1, s1, fun a i h1 => by rw [t1 a i h1, zup_k (by omega)]⟩
        have d2 := eq_true c2
        refine zat_in zP_X6_next zk_X6_next_93 ?_
        simp (disch := omega) only [b_X6_next_93, zif, zdr, zkb, mK_wi, mN_wi, mJ_wi, mI_wi, sI_wi, beq_self_eq_true, Bool.true_or, Bool.or_true, Bool.or_false, Bool.and_self, Bool.and_true, Bool.true_and, ↓reduceIte, ble_up0, i_cl, i_succ, zix_of, zfl_k, zup_k, zup_q, w0, mK_wg, e4]
        refine ev_ci cs ?_
        refine ev_ci cm ?_
        simp (disch := omega) only [zif, zdr, zkb, mK_wi, mN_wi, mJ_wi, mI_wi, sI_wi, beq_self_eq_true, Bool.true_or, Bool.or_true, Bool.or_false, Bool.and_self, Bool.and_true, Bool.true_and, ↓reduceIte, ble_up0, i_cl, i_succ, zix_of, zfl_k, zup_k, zup_q, w0, mK_wg, e4, d1, i_le8, d2]
        refine ev_bk ?_
        refine zat_in zP_X6_next zk_X6_next_140 ?_
        simp (disch := omega) only [e140, zif, zdr, zkb, mK_wi, mN_wi, mJ_wi, mI_wi, sI_wi, beq_self_eq_true, Bool.true_or, Bool.or_true, Bool.or_false, Bool.and_self, Bool.and_true, Bool.true_and, ble_up0, i_cl, i_succ, zix_of, zfl_k, zup_k, zup_q, ↓reduceIte, w0, mK_wg, e4, ek]
        try rw [ek]
        exact ev_bk (a1 r hr)
      · have d2 := eq_false c2
        obtain ⟨f1, f2, f3⟩ := sml_i c1
        have e5 : Int32.toInt64 ((zsc X k - 97) + 1) = Int64.ofNat (nn (zsc X k) - 96) := by
          have := l26 (nn (zsc X k)) (by omega) f2
          rw [← f1] at this
          exact this
        have e6 : Int64.ofNat 32 * g w 30 + Int64.ofNat (nn (zsc X k) - 96) = Int64.ofNat (bs (fun j => zsc X (p + j)) (k - p + 1)) := by
          rw [hg, if_pos (by omega), ← Int64.ofNat_mul, ← Int64.ofNat_add]
          show _ = Int64.ofNat (32 * bs (fun j => zsc X (p + j)) (k - p) + (nn (zsc X (p + (k - p))) - 96))
          rw [show p + (k - p) = k by omega]
        obtain ⟨I1, g1, a1, p1, q1, s1, t1⟩ := ih (k + 1) (by omega) (by omega) (zup I w 25 (Int32.ofNat (k + 1))) (zup g w 30 (Int64.ofNat (bs (fun j => zsc X (p + j)) (k - p + 1)))) (h.put rfl (by omega)) (zup_q _ _ _ _) (by
          rw [zup_q]
          by_cases q : k + 1 - p < 8
          · rw [if_pos q, show k + 1 - p = k - p + 1 by omega]
          · rw [if_neg q, show k - p + 1 = 8 by omega])
        refine ⟨I1, g1, fun r hr => ?_, p1, q1, s1, fun a i h1 => by rw [t1 a i h1, zup_k (by omega)]⟩
        refine zat_in zP_X6_next zk_X6_next_93 ?_
        simp (disch := omega) only [b_X6_next_93, zif, zdr, zkb, mK_wi, mN_wi, mJ_wi, mI_wi, sI_wi, beq_self_eq_true, Bool.true_or, Bool.or_true, Bool.or_false, Bool.and_self, Bool.and_true, Bool.true_and, ↓reduceIte, ble_up0, i_cl, i_succ, zix_of, zfl_k, zup_k, zup_q, w0, mK_wg, e4]
        refine ev_ci cs ?_
        refine ev_ci cm ?_
        simp (disch := omega) only [zif, zdr, zkb, mK_wi, mN_wi, mJ_wi, mI_wi, sI_wi, beq_self_eq_true, Bool.true_or, Bool.or_true, Bool.or_false, Bool.and_self, Bool.and_true, Bool.true_and, ↓reduceIte, ble_up0, i_cl, i_succ, zix_of, zfl_k, zup_k, zup_q, w0, mK_wg, e4, d1, i_le8, d2]
        refine ev_ci cs ?_
        have mg : mG (zwi (zwg S g) I) = g := rfl
        simp (disch := omega) only [zif, zdr, zkb, mK_wi, mN_wi, mJ_wi, mI_wi, sI_wi, beq_self_eq_true, Bool.true_or, Bool.or_true, Bool.or_false, Bool.and_self, Bool.and_true, Bool.true_and, ↓reduceIte, ble_up0, i_cl, i_succ, zix_of, zfl_k, zup_k, zup_q, w0, mK_wg, e4, e5, mg, e6, wg_wi]
        refine ev_tl zP_X6_next zk_X6_next_140 ?_
        refine zat_in zP_X6_next zk_X6_next_140 ?_
        simp (disch := omega) only [e140, zif, zdr, zkb, mK_wi, mN_wi, mJ_wi, mI_wi, sI_wi, beq_self_eq_true, Bool.true_or, Bool.or_true, Bool.or_false, Bool.and_self, Bool.and_true, Bool.true_and, ble_up0, i_cl, i_succ, zix_of, zfl_k, zup_k, zup_q, ↓reduceIte, w0, mK_wg, e4, ek]
        try rw [ek]
        exact ev_bk (a1 r hr)
theorem lp_X6_num {ch : Int32} (hB : E.1 ≤ w) (hS : mRS S w) (hX : X.2 ≤ 400) : ∀ c k : Nat, k + c = X.2 → p ≤ k → ∀ I, mRI I w X → I w 25 = Int32.ofNat k → (k ≤ p + 4 → I w 29 = nmb X p (k - p)) → ∃ I', (∀ r, zAt E (d + 1) 127 240 [some (zr (some w)), some (zi ch), some (zi (Int32.ofNat (rnD X c k - p)))] [] (zwi (zwg S g) I') r → zAt E (d + 1) 127 182 [some (zr (some w)), some (zi ch), some (zi (Int32.ofNat (k - p)))] [] (zwi (zwg S g) I) r) ∧ mRI I' w X ∧ I' w 25 = Int32.ofNat (rnD X c k) ∧ (rnD X c k ≤ p + 4 → I' w 29 = nmb X p (rnD X c k - p)) ∧ ∀ a i, ¬ (a = w ∧ (i = 25 ∨ i = 29)) → I' a i = I a i := by
  have w0 := hS.1
  intro c
  induction c with
  | zero =>
    intro k hk hp I h e4 hj
    have c1 : zsc X k = -1 := zsc_n (by omega)
    have cs := sp_X6_byteX (E := E) (d := d) (g := g) hS hX h (show k < 100000 by omega)
    have cm := sp_X6_isDigit (E := E) (d := d) (S := zwg S g) (I := I) (c := zsc X k)
    rw [c1] at cs cm
    rw [dgt_1] at cm
    refine ⟨I, fun r hr => ?_, h, e4, hj, fun _ _ _ => rfl⟩
    refine zat_in zP_X6_next zk_X6_next_182 ?_
    simp (disch := omega) only [b_X6_next_182, zif, zdr, zkb, mK_wi, mN_wi, mJ_wi, mI_wi, sI_wi, beq_self_eq_true, Bool.true_or, Bool.or_true, Bool.or_false, Bool.and_self, Bool.and_true, Bool.true_and, ↓reduceIte, ble_up0, i_cl, i_succ, zix_of, zfl_k, zup_k, zup_q, w0, mK_wg, e4]
    refine ev_ci cs ?_
    refine ev_ci cm ?_
    simp (disch := omega) only [zif, zdr, zkb, mK_wi, mN_wi, mJ_wi, mI_wi, sI_wi, beq_self_eq_true, Bool.true_or, Bool.or_true, Bool.or_false, Bool.and_self, Bool.and_true, Bool.true_and, ↓reduceIte, ble_up0, i_cl, i_succ, zix_of, zfl_k, zup_k, zup_q]
    exact ev_bk hr
  | succ c ih =>
    intro k hk hp I h e4 hj
    have cs := sp_X6_byteX (E := E) (d := d) (g := g) hS hX h (show k < 100000 by omega)
    have cm := sp_X6_isDigit (E := E) (d := d) (S := zwg S g) (I := I) (c := zsc X k)
    have e224 := @b_X6_next_224
    have ek : Int32.ofNat (k - p) + 1 = Int32.ofNat (k + 1 - p) := by rw [i_succ, show k - p + 1 = k + 1 - p by omega]
    unfold rnD
    by_cases c1 : dgt (zsc X k) = 0
    · rw [if_pos c1]
      rw [c1] at cm
      refine ⟨I, fun r hr => ?_, h, e4, hj, fun _ _ _ => rfl⟩
      refine zat_in zP_X6_next zk_X6_next_182 ?_
      simp (disch := omega) only [b_X6_next_182, zif, zdr, zkb, mK_wi, mN_wi, mJ_wi, mI_wi, sI_wi, beq_self_eq_true, Bool.true_or, Bool.or_true, Bool.or_false, Bool.and_self, Bool.and_true, Bool.true_and, ↓reduceIte, ble_up0, i_cl, i_succ, zix_of, zfl_k, zup_k, zup_q, w0, mK_wg, e4]
      refine ev_ci cs ?_
      refine ev_ci cm ?_
      simp (disch := omega) only [zif, zdr, zkb, mK_wi, mN_wi, mJ_wi, mI_wi, sI_wi, beq_self_eq_true, Bool.true_or, Bool.or_true, Bool.or_false, Bool.and_self, Bool.and_true, Bool.true_and, ↓reduceIte, ble_up0, i_cl, i_succ, zix_of, zfl_k, zup_k, zup_q]
      exact ev_bk hr
    · rw [if_neg c1]
      have d1 := eq_false c1
      by_cases c2 : 4 ≤ k - p
      · obtain ⟨I1, a1, p1, q1, s1, t1⟩ := ih (k + 1) (by omega) (by omega) (zup I w 25 (Int32.ofNat (k + 1))) (h.put rfl (by omega)) (zup_q _ _ _ _) (fun q => by omega)
        refine ⟨I1, fun r hr => ?_, p1, q1, s1, fun a i h1 => by rw [t1 a i h1, zup_k (by omega)]⟩
        have d2 := eq_true c2
        refine zat_in zP_X6_next zk_X6_next_182 ?_
        simp (disch := omega) only [b_X6_next_182, zif, zdr, zkb, mK_wi, mN_wi, mJ_wi, mI_wi, sI_wi, beq_self_eq_true, Bool.true_or, Bool.or_true, Bool.or_false, Bool.and_self, Bool.and_true, Bool.true_and, ↓reduceIte, ble_up0, i_cl, i_succ, zix_of, zfl_k, zup_k, zup_q, w0, mK_wg, e4]
        refine ev_ci cs ?_
        refine ev_ci cm ?_
        simp (disch := omega) only [zif, zdr, zkb, mK_wi, mN_wi, mJ_wi, mI_wi, sI_wi, beq_self_eq_true, Bool.true_or, Bool.or_true, Bool.or_false, Bool.and_self, Bool.and_true, Bool.true_and, ↓reduceIte, ble_up0, i_cl, i_succ, zix_of, zfl_k, zup_k, zup_q, w0, mK_wg, e4, d1, i_le4, d2]
        refine ev_bk ?_
        refine zat_in zP_X6_next zk_X6_next_224 ?_
        simp (disch := omega) only [e224, zif, zdr, zkb, mK_wi, mN_wi, mJ_wi, mI_wi, sI_wi, beq_self_eq_true, Bool.true_or, Bool.or_true, Bool.or_false, Bool.and_self, Bool.and_true, Bool.true_and, ble_up0, i_cl, i_succ, zix_of, zfl_k, zup_k, zup_q, ↓reduceIte, w0, mK_wg, e4, ek]
        try rw [ek]
        exact ev_bk (a1 r hr)
      · have d2 := eq_false c2
        have e7 := hj (by omega)
        have e8 : 10 * nmb X p (k - p) + zsc X k - 48 = nmb X p (k + 1 - p) := by
          rw [show k + 1 - p = k - p + 1 by omega]
          show _ = 10 * nmb X p (k - p) + zsc X (p + (k - p)) - 48
          rw [show p + (k - p) = k by omega]
        obtain ⟨I1, a1, p1, q1, s1, t1⟩ := ih (k + 1) (by omega) (by omega) (zup (zup I w 29 (nmb X p (k + 1 - p))) w 25 (Int32.ofNat (k + 1))) ((h.put rfl (by omega)).put rfl (by omega)) (zup_q _ _ _ _) (fun q => by rw [zup_k (by omega), zup_q])
        refine ⟨I1, fun r hr => ?_, p1, q1, s1, fun a i h1 => by rw [t1 a i h1, zup_k (by omega), zup_k (by omega)]⟩
        refine zat_in zP_X6_next zk_X6_next_182 ?_
        simp (disch := omega) only [b_X6_next_182, zif, zdr, zkb, mK_wi, mN_wi, mJ_wi, mI_wi, sI_wi, beq_self_eq_true, Bool.true_or, Bool.or_true, Bool.or_false, Bool.and_self, Bool.and_true, Bool.true_and, ↓reduceIte, ble_up0, i_cl, i_succ, zix_of, zfl_k, zup_k, zup_q, w0, mK_wg, e4]
        refine ev_ci cs ?_
        refine ev_ci cm ?_
        simp (disch := omega) only [zif, zdr, zkb, mK_wi, mN_wi, mJ_wi, mI_wi, sI_wi, beq_self_eq_true, Bool.true_or, Bool.or_true, Bool.or_false, Bool.and_self, Bool.and_true, Bool.true_and, ↓reduceIte, ble_up0, i_cl, i_succ, zix_of, zfl_k, zup_k, zup_q, w0, mK_wg, e4, d1, i_le4, d2]
        refine ev_ci cs ?_
        simp (disch := omega) only [zif, zdr, zkb, mK_wi, mN_wi, mJ_wi, mI_wi, sI_wi, beq_self_eq_true, Bool.true_or, Bool.or_true, Bool.or_false, Bool.and_self, Bool.and_true, Bool.true_and, ↓reduceIte, ble_up0, i_cl, i_succ, zix_of, zfl_k, zup_k, zup_q, w0, mK_wg, e7, e8]
        refine ev_tl zP_X6_next zk_X6_next_224 ?_
        refine zat_in zP_X6_next zk_X6_next_224 ?_
        simp (disch := omega) only [e224, zif, zdr, zkb, mK_wi, mN_wi, mJ_wi, mI_wi, sI_wi, beq_self_eq_true, Bool.true_or, Bool.or_true, Bool.or_false, Bool.and_self, Bool.and_true, Bool.true_and, ble_up0, i_cl, i_succ, zix_of, zfl_k, zup_k, zup_q, ↓reduceIte, w0, mK_wg, e4, ek]
        try rw [ek]
        exact ev_bk (a1 r hr)
theorem sp_X6_next {e : Nat} (hB : E.1 ≤ w) (hS : mRS S w) (hX : X.2 ≤ 400) (h : mRI I w X) (e4 : I w 25 = Int32.ofNat e) (he : e ≤ X.2) : ∃ g' I', zCl E (d + 1) 127 [zr (some w)] (zwi (zwg S g) I) (Sum.inl none, zwi (zwg S g') I') ∧ mTk I' g' w X e ∧ mFr w I I' := by
  have w0 := hS.1
  obtain ⟨pa1, pa2⟩ := tA_le he
  obtain ⟨pe1, pe2⟩ := tE_le he
  obtain ⟨I0, a0, p0, q0, f0⟩ := lp_X6_skip (E := E) (d := d) (g := g) hB hS hX (X.2 - e) e (by omega) I h e4
  have q0 : I0 w 25 = Int32.ofNat (kA X e) := q0
  have st : ∀ r, zAt E (d + 1) 127 39 [some (zr (some w)), none, none] [] (zwi (zwg S g) I0) r → zCl E (d + 1) 127 [zr (some w)] (zwi (zwg S g) I) r := by
    intro r hr
    refine zcl_in' zP_X6_next ?_; rw [zn_1_3]
    exact a0 r hr
  have h1 : mRI (zup (zup (zup I0 w 27 (Int32.ofNat (kA X e))) w 26 0) w 28 0) w X := ((p0.put rfl (by omega)).put rfl (by omega)).put rfl (by omega)
  have cs := sp_X6_byteX (E := E) (d := d) (g := g) hS hX h1 (show kA X e < 100000 by omega)
  have cm := sp_X6_isLetter (E := E) (d := d) (S := zwg S g) (I := zup (zup (zup I0 w 27 (Int32.ofNat (kA X e))) w 26 0) w 28 0) (c := zsc X (kA X e))
  have cd := sp_X6_isDigit (E := E) (d := d) (S := zwg S g) (I := zup (zup (zup I0 w 27 (Int32.ofNat (kA X e))) w 26 0) w 28 0) (c := zsc X (kA X e))
  have e291 := @b_X6_next_291
  by_cases c1 : zsc X (kA X e) = -1
  · have k1 : tK X e = 0 := if_pos c1
    have k2 : tE X e = kA X e := if_pos c1
    have d1 := eq_true c1
    refine ⟨g, zup (zup (zup (zup I0 w 27 (Int32.ofNat (kA X e))) w 26 0) w 28 0) w 26 1, st _ ?_, ⟨⟨h1.put rfl (by omega), hX⟩, fun _ => ?_, ?_, ?_, ?_, fun q => ?_, fun q => ?_⟩, fun a k q => ?_⟩
    · refine zat_in zP_X6_next zk_X6_next_39 ?_
      simp (disch := omega) only [b_X6_next_39, zif, zdr, zkb, mK_wi, mN_wi, mJ_wi, mI_wi, sI_wi, beq_self_eq_true, Bool.true_or, Bool.or_true, Bool.or_false, Bool.and_self, Bool.and_true, Bool.true_and, ↓reduceIte, ble_up0, i_cl, i_succ, zix_of, zfl_k, zup_k, zup_q, w0, mK_wg, q0]
      refine ev_ci cs ?_
      simp (disch := omega) only [zif, zdr, zkb, mK_wi, mN_wi, mJ_wi, mI_wi, sI_wi, beq_self_eq_true, Bool.true_or, Bool.or_true, Bool.or_false, Bool.and_self, Bool.and_true, Bool.true_and, ↓reduceIte, ble_up0, i_cl, i_succ, zix_of, zfl_k, zup_k, zup_q, w0, mK_wg, d1]
      refine ev_bk ?_
      refine zat_in zP_X6_next zk_X6_next_291 ?_
      simp only [e291]
      exact ev_r
    · simp (disch := omega) only [zfl_k, zfl_q, zup_k, zup_q]
      rw [k2]
      exact q0
    · rw [zup_q, k1]
      rfl
    · simp (disch := omega) only [zfl_k, zfl_q, zup_k, zup_q]
    · simp (disch := omega) only [zfl_k, zfl_q, zup_k, zup_q]
      rw [k1]
      rfl
    · rw [k1] at q
      exact absurd q (by decide)
    · rw [k1] at q
      exact absurd q (by decide)
    · simp (disch := omega) only [zfl_k, zfl_q, zup_k, zup_q]
      exact f0 a k (by omega)
  · have d1 := eq_false c1
    have hlt : kA X e < X.2 := by
      rcases Nat.lt_or_ge (kA X e) X.2 with q | q
      · exact q
      · exact absurd (zsc_n q) c1
    by_cases c2 : sml (zsc X (kA X e)) = 0
    · have d2 := eq_true c2
      have to170 : ∀ r, zAt E (d + 1) 127 170 [some (zr (some w)), some (zi (zsc X (kA X e))), some (zi 0)] [] (zwi (zwg S g) (zup (zup (zup I0 w 27 (Int32.ofNat (kA X e))) w 26 0) w 28 0)) r → zCl E (d + 1) 127 [zr (some w)] (zwi (zwg S g) I) r := by
        intro r hr
        refine st _ ?_
        refine zat_in zP_X6_next zk_X6_next_39 ?_
        simp (disch := omega) only [b_X6_next_39, zif, zdr, zkb, mK_wi, mN_wi, mJ_wi, mI_wi, sI_wi, beq_self_eq_true, Bool.true_or, Bool.or_true, Bool.or_false, Bool.and_self, Bool.and_true, Bool.true_and, ↓reduceIte, ble_up0, i_cl, i_succ, zix_of, zfl_k, zup_k, zup_q, w0, mK_wg, q0]
        refine ev_ci cs ?_
        simp (disch := omega) only [zif, zdr, zkb, mK_wi, mN_wi, mJ_wi, mI_wi, sI_wi, beq_self_eq_true, Bool.true_or, Bool.or_true, Bool.or_false, Bool.and_self, Bool.and_true, Bool.true_and, ↓reduceIte, ble_up0, i_cl, i_succ, zix_of, zfl_k, zup_k, zup_q, w0, mK_wg, d1]
        refine ev_bk ?_
        refine zat_in zP_X6_next zk_X6_next_81 ?_
        simp (disch := omega) only [b_X6_next_81, zif, zdr, zkb, mK_wi, mN_wi, mJ_wi, mI_wi, sI_wi, beq_self_eq_true, Bool.true_or, Bool.or_true, Bool.or_false, Bool.and_self, Bool.and_true, Bool.true_and, ↓reduceIte, ble_up0, i_cl, i_succ, zix_of, zfl_k, zup_k, zup_q, w0, mK_wg]
        refine ev_ci cm ?_
        simp (disch := omega) only [zif, zdr, zkb, mK_wi, mN_wi, mJ_wi, mI_wi, sI_wi, beq_self_eq_true, Bool.true_or, Bool.or_true, Bool.or_false, Bool.and_self, Bool.and_true, Bool.true_and, ↓reduceIte, ble_up0, i_cl, i_succ, zix_of, zfl_k, zup_k, zup_q, d2]
        exact ev_bk hr
      by_cases c3 : dgt (zsc X (kA X e)) = 0
      · -- signs
        have d3 := eq_true c3
        have k2 : tE X e = kA X e + 1 := by unfold tE; rw [if_neg c1, if_pos c2, if_pos c3]
        have k1 : tK X e = sgn3 (zsc X (kA X e)) := by unfold tK; rw [if_neg c1, if_pos c2, if_pos c3]
        have ks : ∀ v, v = 2 ∨ v = 3 → tK X e ≠ v := by
          rw [k1]
          unfold sgn3
          intro v hv
          repeat' split
          all_goals (rcases hv with rfl | rfl <;> decide)
        have to253 : ∀ r, zAt E (d + 1) 127 253 [some (zr (some w)), some (zi (zsc X (kA X e))), some (zi 0)] [] (zwi (zwg S g) (zup (zup (zup I0 w 27 (Int32.ofNat (kA X e))) w 26 0) w 28 0)) r → zCl E (d + 1) 127 [zr (some w)] (zwi (zwg S g) I) r := by
          intro r hr
          refine to170 _ ?_
          refine zat_in zP_X6_next zk_X6_next_170 ?_
          simp (disch := omega) only [b_X6_next_170, zif, zdr, zkb, mK_wi, mN_wi, mJ_wi, mI_wi, sI_wi, beq_self_eq_true, Bool.true_or, Bool.or_true, Bool.or_false, Bool.and_self, Bool.and_true, Bool.true_and, ↓reduceIte, ble_up0, i_cl, i_succ, zix_of, zfl_k, zup_k, zup_q, w0, mK_wg]
          refine ev_ci cd ?_
          simp (disch := omega) only [zif, zdr, zkb, mK_wi, mN_wi, mJ_wi, mI_wi, sI_wi, beq_self_eq_true, Bool.true_or, Bool.or_true, Bool.or_false, Bool.and_self, Bool.and_true, Bool.true_and, ↓reduceIte, ble_up0, i_cl, i_succ, zix_of, zfl_k, zup_k, zup_q, d3]
          exact ev_bk hr
        have e294 := @b_X6_next_253
        by_cases c4 : zsc X (kA X e) = 60 ∨ zsc X (kA X e) = 62 ∨ zsc X (kA X e) = 59
        · have k3 : tK X e = zsc X (kA X e) := by
            rw [k1]
            unfold sgn3
            rcases c4 with q | q | q <;> rw [q] <;> decide
          have k4 : mso (tK X e) = 4 ∧ msg (tK X e) = tK X e := by
            rw [k3]
            rcases c4 with q | q | q <;> rw [q] <;> decide
          have go : ∀ ls, ls = [some (zr (some w)), some (zi (zsc X (kA X e))), some (zi 0)] → zAt E (d + 1) 127 271 ls [] (zwi (zwg S g) (zup (zup (zup I0 w 27 (Int32.ofNat (kA X e))) w 26 0) w 28 0)) (Sum.inl none, zwi (zwg S g) (zup (zup (zup (zup (zup (zup I0 w 27 (Int32.ofNat (kA X e))) w 26 0) w 28 0) w 26 4) w 28 (zsc X (kA X e))) w 25 (Int32.ofNat (kA X e + 1)))) := by
            intro ls hls
            subst hls
            have e271 := @b_X6_next_271
            refine zat_in zP_X6_next zk_X6_next_271 ?_
            simp (disch := omega) only [e271, zif, zdr, zkb, mK_wi, mN_wi, mJ_wi, mI_wi, sI_wi, beq_self_eq_true, Bool.true_or, Bool.or_true, Bool.or_false, Bool.and_self, Bool.and_true, Bool.true_and, ↓reduceIte, ble_up0, i_cl, i_succ, zix_of, zfl_k, zup_k, zup_q, w0, mK_wg, q0]
            refine ev_tl zP_X6_next zk_X6_next_291 ?_
            refine zat_in zP_X6_next zk_X6_next_291 ?_
            simp only [e291]
            exact ev_r
          refine ⟨g, zup (zup (zup (zup (zup (zup I0 w 27 (Int32.ofNat (kA X e))) w 26 0) w 28 0) w 26 4) w 28 (zsc X (kA X e))) w 25 (Int32.ofNat (kA X e + 1)), to253 _ ?_, ⟨⟨((h1.put rfl (by omega)).put rfl (by omega)).put rfl (by omega), hX⟩, fun _ => ?_, ?_, ?_, ?_, fun q => absurd q (ks 3 (Or.inr rfl)), fun q => absurd q (ks 2 (Or.inl rfl))⟩, fun a k q => ?_⟩
          · refine zat_in zP_X6_next zk_X6_next_253 ?_
            simp only [e294]
            refine ev_th _ (fun q => ev_bk (go _ rfl)) (fun q1 => ?_)
            refine ev_th _ (fun q => ev_bk (go _ rfl)) (fun q2 => ?_)
            refine ev_th _ (fun q => ev_tl zP_X6_next zk_X6_next_271 (go _ rfl)) (fun q3 => ?_)
            exfalso
            rcases c4 with q | q | q
            · exact q1 q
            · exact q2 q
            · exact q3 q
          · rw [zup_q, k2]
          · simp (disch := omega) only [zfl_k, zfl_q, zup_k, zup_q]
            rw [k4.1]
          · simp (disch := omega) only [zfl_k, zfl_q, zup_k, zup_q]
          · simp (disch := omega) only [zfl_k, zfl_q, zup_k, zup_q]
            rw [k4.2, k3]
          · simp (disch := omega) only [zfl_k, zfl_q, zup_k, zup_q]
            exact f0 a k (by omega)
        · have k3 : tK X e = 1 := by
            rw [k1]
            unfold sgn3
            rw [if_neg (fun q => c4 (Or.inl q)), if_neg (fun q => c4 (Or.inr (Or.inl q))), if_neg (fun q => c4 (Or.inr (Or.inr q)))]
          refine ⟨g, zup (zup (zup I0 w 27 (Int32.ofNat (kA X e))) w 26 0) w 28 0, to253 _ ?_, ⟨⟨h1, hX⟩, fun q => absurd k3 q, ?_, ?_, ?_, fun q => absurd q (ks 3 (Or.inr rfl)), fun q => absurd q (ks 2 (Or.inl rfl))⟩, fun a k q => ?_⟩
          · refine zat_in zP_X6_next zk_X6_next_253 ?_
            simp only [e294]
            refine ev_th _ (fun q => absurd (Or.inl q) c4) (fun q1 => ?_)
            refine ev_th _ (fun q => absurd (Or.inr (Or.inl q)) c4) (fun q2 => ?_)
            refine ev_th _ (fun q => absurd (Or.inr (Or.inr q)) c4) (fun q3 => ?_)
            refine ev_bk ?_
            refine zat_in zP_X6_next zk_X6_next_291 ?_
            simp only [e291]
            exact ev_r
          · simp (disch := omega) only [zfl_k, zfl_q, zup_k, zup_q]
            rw [k3]
            rfl
          · simp (disch := omega) only [zfl_k, zfl_q, zup_k, zup_q]
          · simp (disch := omega) only [zfl_k, zfl_q, zup_k, zup_q]
            rw [k3]
            rfl
          · simp (disch := omega) only [zfl_k, zfl_q, zup_k, zup_q]
            exact f0 a k (by omega)
      · -- a number
        have d3 := eq_false c3
        have k2 : tE X e = rnD X (X.2 - kA X e) (kA X e) := by unfold tE; rw [if_neg c1, if_pos c2, if_neg c3]
        have k1 : tK X e = if tE X e ≤ kA X e + 4 then 3 else 1 := by unfold tK; rw [if_neg c1, if_pos c2, if_neg c3]
        obtain ⟨I1, a1, b1, g1, n1, f1⟩ := lp_X6_num (E := E) (d := d) (g := g) (p := kA X e) (ch := zsc X (kA X e)) hB hS hX (X.2 - kA X e) (kA X e) (by omega) (Nat.le_refl _) (zup (zup (zup (zup I0 w 27 (Int32.ofNat (kA X e))) w 26 0) w 28 0) w 29 0) (h1.put rfl (by omega)) (by simp (disch := omega) only [zfl_k, zfl_q, zup_k, zup_q]; exact q0) (fun _ => by rw [zup_q, Nat.sub_self]; rfl)
        rw [← k2] at a1 g1 n1
        rw [Nat.sub_self] at a1
        have a1 : ∀ r, zAt E (d + 1) 127 240 [some (zr (some w)), some (zi (zsc X (kA X e))), some (zi (Int32.ofNat (tE X e - kA X e)))] [] (zwi (zwg S g) I1) r → zCl E (d + 1) 127 [zr (some w)] (zwi (zwg S g) I) r := by
          intro r hr
          refine to170 _ ?_
          refine zat_in zP_X6_next zk_X6_next_170 ?_
          simp (disch := omega) only [b_X6_next_170, zif, zdr, zkb, mK_wi, mN_wi, mJ_wi, mI_wi, sI_wi, beq_self_eq_true, Bool.true_or, Bool.or_true, Bool.or_false, Bool.and_self, Bool.and_true, Bool.true_and, ↓reduceIte, ble_up0, i_cl, i_succ, zix_of, zfl_k, zup_k, zup_q, w0, mK_wg]
          refine ev_ci cd ?_
          simp (disch := omega) only [zif, zdr, zkb, mK_wi, mN_wi, mJ_wi, mI_wi, sI_wi, beq_self_eq_true, Bool.true_or, Bool.or_true, Bool.or_false, Bool.and_self, Bool.and_true, Bool.true_and, ↓reduceIte, ble_up0, i_cl, i_succ, zix_of, zfl_k, zup_k, zup_q, w0, mK_wg, d3]
          refine ev_tl zP_X6_next zk_X6_next_182 ?_
          exact a1 r hr
        have v : ∀ k, k ≠ 25 → k ≠ 29 → I1 w k = zup (zup (zup I0 w 27 (Int32.ofNat (kA X e))) w 26 0) w 28 0 w k := fun k h1 h2 => by rw [f1 _ _ (by omega), zup_k (by omega)]
        have fI : mFr w I I1 := fun a k q => by
          rw [f1 _ _ (by omega)]
          simp (disch := omega) only [zfl_k, zfl_q, zup_k, zup_q]
          exact f0 a k (by omega)
        by_cases c4 : tE X e ≤ kA X e + 4
        · have k3 : tK X e = 3 := by rw [k1, if_pos c4]
          have d4 : ((9 : Int32) = 9) := rfl
          have l5 : ((5 : Int32) ≤ Int32.ofNat (tE X e - kA X e)) = False := by
            rw [show (5 : Int32) = Int32.ofNat 5 from rfl, i_le (by omega) (by omega)]
            exact eq_false (by omega)
          refine ⟨g, zup I1 w 26 3, a1 _ ?_, ⟨⟨b1.put rfl (by omega), hX⟩, fun _ => ?_, ?_, ?_, ?_, fun _ => ?_, fun q => ?_⟩, fun a k q => ?_⟩
          · refine zat_in zP_X6_next zk_X6_next_240 ?_
            simp (disch := omega) only [b_X6_next_240, zif, zdr, zkb, mK_wi, mN_wi, mJ_wi, mI_wi, sI_wi, beq_self_eq_true, Bool.true_or, Bool.or_true, Bool.or_false, Bool.and_self, Bool.and_true, Bool.true_and, ↓reduceIte, ble_up0, i_cl, i_succ, zix_of, zfl_k, zup_k, zup_q, w0, mK_wg, l5]
            refine ev_bk ?_
            refine zat_in zP_X6_next zk_X6_next_291 ?_
            simp only [e291]
            exact ev_r
          · rw [zup_k (by omega)]
            exact g1
          · rw [zup_q, k3]
            rfl
          · rw [zup_k (by omega), v 27 (by omega) (by omega)]
            simp (disch := omega) only [zfl_k, zfl_q, zup_k, zup_q]
          · rw [zup_k (by omega), v 28 (by omega) (by omega), zup_q, k3]
            rfl
          · rw [zup_k (by omega)]
            exact n1 c4
          · rw [k3] at q
            exact absurd q (by decide)
          · rw [zup_k (by omega)]
            exact fI a k q
        · have k3 : tK X e = 1 := by rw [k1, if_neg c4]
          have l5 : ((5 : Int32) ≤ Int32.ofNat (tE X e - kA X e)) = True := by
            rw [show (5 : Int32) = Int32.ofNat 5 from rfl, i_le (by omega) (by omega)]
            exact eq_true (by omega)
          refine ⟨g, I1, a1 _ ?_, ⟨⟨b1, hX⟩, fun q => absurd k3 q, ?_, ?_, ?_, fun q => ?_, fun q => ?_⟩, fI⟩
          · refine zat_in zP_X6_next zk_X6_next_240 ?_
            simp (disch := omega) only [b_X6_next_240, zif, zdr, zkb, mK_wi, mN_wi, mJ_wi, mI_wi, sI_wi, beq_self_eq_true, Bool.true_or, Bool.or_true, Bool.or_false, Bool.and_self, Bool.and_true, Bool.true_and, ↓reduceIte, ble_up0, i_cl, i_succ, zix_of, zfl_k, zup_k, zup_q, w0, mK_wg, l5]
            refine ev_bk ?_
            refine zat_in zP_X6_next zk_X6_next_291 ?_
            simp only [e291]
            exact ev_r
          · rw [v 26 (by omega) (by omega), zup_k (by omega), zup_q, k3]
            rfl
          · rw [v 27 (by omega) (by omega)]
            simp (disch := omega) only [zfl_k, zfl_q, zup_k, zup_q]
          · rw [v 28 (by omega) (by omega), zup_q, k3]
            rfl
          · rw [k3] at q
            exact absurd q (by decide)
          · rw [k3] at q
            exact absurd q (by decide)
    · -- a word
      have d2 := eq_false c2
      have k2 : tE X e = rnL X (X.2 - kA X e) (kA X e) := by unfold tE; rw [if_neg c1, if_neg c2]
      have k1 : tK X e = if tE X e ≤ kA X e + 8 then 2 else 1 := by unfold tK; rw [if_neg c1, if_neg c2]
      obtain ⟨I1, g1', a1, b1, g1, n1, f1⟩ := lp_X6_word (E := E) (d := d) (p := kA X e) (ch := zsc X (kA X e)) hB hS hX (X.2 - kA X e) (kA X e) (by omega) (Nat.le_refl _) (zup (zup (zup I0 w 27 (Int32.ofNat (kA X e))) w 26 0) w 28 0) (zup g w 30 (Int64.ofNat 0)) h1 (by simp (disch := omega) only [zfl_k, zfl_q, zup_k, zup_q]; exact q0) (by rw [zup_q, if_pos (by omega), Nat.sub_self]; rfl)
      rw [← k2] at a1 g1 n1
      rw [Nat.sub_self] at a1
      have a1 : ∀ r, zAt E (d + 1) 127 156 [some (zr (some w)), some (zi (zsc X (kA X e))), some (zi (Int32.ofNat (tE X e - kA X e)))] [] (zwi (zwg S g1') I1) r → zCl E (d + 1) 127 [zr (some w)] (zwi (zwg S g) I) r := by
        intro r hr
        refine st _ ?_
        refine zat_in zP_X6_next zk_X6_next_39 ?_
        simp (disch := omega) only [b_X6_next_39, zif, zdr, zkb, mK_wi, mN_wi, mJ_wi, mI_wi, sI_wi, beq_self_eq_true, Bool.true_or, Bool.or_true, Bool.or_false, Bool.and_self, Bool.and_true, Bool.true_and, ↓reduceIte, ble_up0, i_cl, i_succ, zix_of, zfl_k, zup_k, zup_q, w0, mK_wg, q0]
        refine ev_ci cs ?_
        simp (disch := omega) only [zif, zdr, zkb, mK_wi, mN_wi, mJ_wi, mI_wi, sI_wi, beq_self_eq_true, Bool.true_or, Bool.or_true, Bool.or_false, Bool.and_self, Bool.and_true, Bool.true_and, ↓reduceIte, ble_up0, i_cl, i_succ, zix_of, zfl_k, zup_k, zup_q, w0, mK_wg, d1]
        refine ev_bk ?_
        refine zat_in zP_X6_next zk_X6_next_81 ?_
        simp (disch := omega) only [b_X6_next_81, zif, zdr, zkb, mK_wi, mN_wi, mJ_wi, mI_wi, sI_wi, beq_self_eq_true, Bool.true_or, Bool.or_true, Bool.or_false, Bool.and_self, Bool.and_true, Bool.true_and, ↓reduceIte, ble_up0, i_cl, i_succ, zix_of, zfl_k, zup_k, zup_q, w0, mK_wg]
        refine ev_ci cm ?_
        simp (disch := omega) only [zif, zdr, zkb, mK_wi, mN_wi, mJ_wi, mI_wi, sI_wi, beq_self_eq_true, Bool.true_or, Bool.or_true, Bool.or_false, Bool.and_self, Bool.and_true, Bool.true_and, ↓reduceIte, ble_up0, i_cl, i_succ, zix_of, zfl_k, zup_k, zup_q, w0, mK_wg, d2, wg_wi]
        refine ev_tl zP_X6_next zk_X6_next_93 ?_
        exact a1 r hr
      have v : ∀ k, k ≠ 25 → I1 w k = zup (zup (zup I0 w 27 (Int32.ofNat (kA X e))) w 26 0) w 28 0 w k := fun k h1 => f1 _ _ (by omega)
      have fI : mFr w I I1 := fun a k q => by
        rw [f1 _ _ (by omega)]
        simp (disch := omega) only [zfl_k, zfl_q, zup_k, zup_q]
        exact f0 a k (by omega)
      by_cases c4 : tE X e ≤ kA X e + 8
      · have k3 : tK X e = 2 := by rw [k1, if_pos c4]
        have l9 : ((9 : Int32) ≤ Int32.ofNat (tE X e - kA X e)) = False := by
          rw [show (9 : Int32) = Int32.ofNat 9 from rfl, i_le (by omega) (by omega)]
          exact eq_false (by omega)
        refine ⟨g1', zup I1 w 26 2, a1 _ ?_, ⟨⟨b1.put rfl (by omega), hX⟩, fun _ => ?_, ?_, ?_, ?_, fun q => ?_, fun _ => ?_⟩, fun a k q => ?_⟩
        · refine zat_in zP_X6_next zk_X6_next_156 ?_
          simp (disch := omega) only [b_X6_next_156, zif, zdr, zkb, mK_wi, mN_wi, mJ_wi, mI_wi, sI_wi, beq_self_eq_true, Bool.true_or, Bool.or_true, Bool.or_false, Bool.and_self, Bool.and_true, Bool.true_and, ↓reduceIte, ble_up0, i_cl, i_succ, zix_of, zfl_k, zup_k, zup_q, w0, mK_wg, l9]
          refine ev_bk ?_
          refine zat_in zP_X6_next zk_X6_next_291 ?_
          simp only [e291]
          exact ev_r
        · rw [zup_k (by omega)]
          exact g1
        · rw [zup_q, k3]
          rfl
        · rw [zup_k (by omega), v 27 (by omega)]
          simp (disch := omega) only [zfl_k, zfl_q, zup_k, zup_q]
        · rw [zup_k (by omega), v 28 (by omega), zup_q, k3]
          rfl
        · rw [k3] at q
          exact absurd q (by decide)
        · rw [n1]
          have : (if tE X e - kA X e < 8 then tE X e - kA X e else 8) = tL X e := by
            unfold tL
            split <;> omega
          rw [this]
          rfl
        · rw [zup_k (by omega)]
          exact fI a k q
      · have k3 : tK X e = 1 := by rw [k1, if_neg c4]
        have l9 : ((9 : Int32) ≤ Int32.ofNat (tE X e - kA X e)) = True := by
          rw [show (9 : Int32) = Int32.ofNat 9 from rfl, i_le (by omega) (by omega)]
          exact eq_true (by omega)
        refine ⟨g1', I1, a1 _ ?_, ⟨⟨b1, hX⟩, fun q => absurd k3 q, ?_, ?_, ?_, fun q => ?_, fun q => ?_⟩, fI⟩
        · refine zat_in zP_X6_next zk_X6_next_156 ?_
          simp (disch := omega) only [b_X6_next_156, zif, zdr, zkb, mK_wi, mN_wi, mJ_wi, mI_wi, sI_wi, beq_self_eq_true, Bool.true_or, Bool.or_true, Bool.or_false, Bool.and_self, Bool.and_true, Bool.true_and, ↓reduceIte, ble_up0, i_cl, i_succ, zix_of, zfl_k, zup_k, zup_q, w0, mK_wg, l9]
          refine ev_bk ?_
          refine zat_in zP_X6_next zk_X6_next_291 ?_
          simp only [e291]
          exact ev_r
        · rw [v 26 (by omega), zup_k (by omega), zup_q, k3]
          rfl
        · rw [v 27 (by omega)]
          simp (disch := omega) only [zfl_k, zfl_q, zup_k, zup_q]
        · rw [v 28 (by omega), zup_q, k3]
          rfl
        · rw [k3] at q
          exact absurd q (by decide)
        · rw [k3] at q
          exact absurd q (by decide)
end
