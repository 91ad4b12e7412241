/-! ===== words against the texts; reading by the model ===== -/
set_option maxRecDepth 100000
theorem sh0 : ∀ n, n < 9 → Int32.ofNat n >>> ((0 : Int32) &&& 31) = Int32.ofNat n := by decide +kernel
theorem xTX.up {E : zE} {S : zM} {I : Nat → Nat → Int32} {B w : Nat} (h : xTX E S I B) (hw : B ≤ w) : xTX E S I w := fun i hi => by
  obtain ⟨tb, h1, h2, h3⟩ := h i hi
  exact ⟨tb, by omega, by omega, h3⟩
theorem xTX.frI {E : zE} {S : zM} {I I' : Nat → Nat → Int32} {B : Nat} (h : xTX E S I B) (hf : ∀ a k, a < B → I' a k = I a k) : xTX E S I' B := fun i hi => by
  obtain ⟨tb, h1, h2, h3, h4, h5, h6, h7, h8⟩ := h i hi
  exact ⟨tb, h1, h2, h3, h4, (hf _ _ h1).trans h5, h6, h7, fun j hj => (hf _ _ h2).trans (h8 j hj)⟩
/-- a memory in which the model reads -/
def mRD (E : zE) (S : zM) (g : Nat → Nat → Int64) (I : Nat → Nat → Int32) (w : Nat) (X : zTx) (e : Nat) : Prop := (mRS S w ∧ mJ S w 21 = some (w + 19) ∧ mK S (w + 19) = 9) ∧ xTX E S I w ∧ mTk I g w X e ∧ e ≤ X.2
def mTh (I : Nat → Nat → Int32) (w : Nat) (f : Int32) (p : Nat) : Prop := I (w + 19) 6 = f ∧ I (w + 19) 7 = Int32.ofNat p
/-- what reading rule q leaves as it was -/
def mQf (w q : Nat) (I I' : Nat → Nat → Int32) : Prop := ∀ a k, ¬ (a = w ∧ 25 ≤ k ∧ k ≤ 29) → a ≠ w + 19 → ¬ ((a = w + 22 ∨ a = w + 23) ∧ k = q) → ¬ (w + 24 ≤ a ∧ a ≤ w + 26 ∧ 4 * q ≤ k ∧ k < 4 * q + 4) → I' a k = I a k
theorem mFr.q {w q : Nat} {I I' : Nat → Nat → Int32} (h : mFr w I I') : mQf w q I I' := fun a k h1 _ _ _ => h a k h1
theorem mQf.rf {w q : Nat} {I : Nat → Nat → Int32} : mQf w q I I := fun _ _ _ _ _ _ => rfl
theorem mQf.tr {w q : Nat} {I I1 I2 : Nat → Nat → Int32} (h : mQf w q I I1) (h' : mQf w q I1 I2) : mQf w q I I2 := fun a k h1 h2 h3 h4 => (h' a k h1 h2 h3 h4).trans (h a k h1 h2 h3 h4)
section
variable {E : zE} {d w e i q : Nat} {S : zM} {g : Nat → Nat → Int64} {I I' : Nat → Nat → Int32} {X : zTx} {v : Int32}
/-- other ints may change while the model reads -/
theorem mRD.fx (hR : mRD E S g I w X e) (hf : ∀ a k, a < w ∨ (a = w ∧ 24 ≤ k ∧ k ≤ 29) ∨ a = w + 20 → I' a k = I a k) : mRD E S g I' w X e := by
  obtain ⟨r1, r2, ⟨⟨⟨r3, r4⟩, r5⟩, r6, r7, r8, r9, r10, r11⟩, r12⟩ := hR
  refine ⟨r1, r2.frI (fun a k h => hf a k (Or.inl h)), ⟨⟨⟨(hf _ _ (by omega)).trans r3, fun j hj => (hf _ _ (by omega)).trans (r4 j hj)⟩, r5⟩, fun q => (hf _ _ (by omega)).trans (r6 q), (hf _ _ (by omega)).trans r7, (hf _ _ (by omega)).trans r8, (hf _ _ (by omega)).trans r9, fun q => (hf _ _ (by omega)).trans (r10 q), r11⟩, r12⟩
theorem mRD.nx (hB : E.1 ≤ w) (hR : mRD E S g I w X e) (hk : tK X e ≠ 1) : ∃ g' I', zCl E (d + 1) 127 [zr (some w)] (zwi (zwg S g) I) (Sum.inl none, zwi (zwg S g') I') ∧ mRD E S g' I' w X (tE X e) ∧ mFr w I I' := by
  obtain ⟨r1, r2, r3, r12⟩ := hR
  obtain ⟨g1, I1, a1, b1, f1⟩ := sp_X6_next (E := E) (d := d) (g := g) hB r1.1 r3.1.2 r3.1.1 (r3.2.1 hk) (tE_le r12).2
  exact ⟨g1, I1, a1, ⟨r1, r2.frI (fun a k h => f1 a k (by omega)), b1, (tE_le r12).2⟩, f1⟩
theorem sp_J3_length {s sb l : Nat} {f : Nat → Int32} (hs : xTx S I s sb f l) (hl : l < 9) : zCl E (d + 1) 12 [zr (some s)] (zwi S I) (Sum.inl (some (zi (Int32.ofNat l))), zwi S I) := by
  obtain ⟨s1, s2, s3, s4, s5, s6⟩ := hs
  have cc : zCl E d 13 [zr (some s)] (zwi S I) (Sum.inl (some (zi 0)), zwi S I) := by
    have z0 : (Int8.toInt32 (Int32.toInt8 0) == (0 : Int32)) = true := by decide
    refine zcl_in' zP_J3_coder ?_; rw [zn_1_1]
    refine zat_in zP_J3_coder zk_J3_coder_0 ?_
    simp (disch := omega) only [b_J3_coder_0, zif, zdr, zkb, mK_wi, mN_wi, mJ_wi, mI_wi, sI_wi, beq_self_eq_true, Bool.true_or, Bool.or_true, Bool.or_false, Bool.and_self, Bool.and_true, Bool.true_and, ↓reduceIte, ble_up0, i_cl, i_succ, zix_of, zfl_k, zup_k, zup_q, z10, i10, s1, s3]
    refine ev_bk ?_
    refine zat_in zP_J3_coder zk_J3_coder_14 ?_; simp (disch := omega) only [b_J3_coder_14, zif, zdr, zkb, mK_wi, mN_wi, mJ_wi, mI_wi, sI_wi, beq_self_eq_true, Bool.true_or, Bool.or_true, Bool.or_false, Bool.and_self, Bool.and_true, Bool.true_and, ↓reduceIte, z0]
    exact ev_r
  refine zcl_in' zP_J3_length ?_; rw [zn_1_1]
  refine zat_in zP_J3_length zk_J3_length_0 ?_
  simp (disch := omega) only [b_J3_length_0, zif, zdr, zkb, mK_wi, mN_wi, mJ_wi, mI_wi, sI_wi, beq_self_eq_true, Bool.true_or, Bool.or_true, Bool.or_false, Bool.and_self, Bool.and_true, Bool.true_and, ↓reduceIte, ble_up0, i_cl, i_succ, zix_of, zfl_k, zup_k, zup_q, s1, s2, s4, s5]
  refine ev_ci cc ?_
  rw [sh0 l hl]
  exact ev_r
theorem sp_J3_charAt {s sb l k : Nat} {f : Nat → Int32} (hs : xTx S I s sb f l) (hf : ltr f l) (hl : l < 9) (hk : k < l) : zCl E (d + 3) 14 [zr (some s), zi (Int32.ofNat k)] (zwi S I) (Sum.inl (some (zi (f k))), zwi S I) := by
  obtain ⟨s1, s2, s3, s4, s5, s6⟩ := hs
  obtain ⟨f1, f2, f3⟩ := hf k hk
  have e1 : I sb k = f k := s6 k hk
  have e2 : f k &&& 255 = f k := by
    have := a255 (nn (f k)) (by omega)
    rw [← f1] at this
    exact this
  have e3 : UInt32.toInt32 (Int32.toUInt32 (f k) % 65536) = f k := by
    have := c16 (nn (f k)) (by omega)
    rw [← f1] at this
    exact this
  have c17 : zCl E d 17 [zi (Int32.ofNat k), zi (Int32.ofNat l), zr (E.2.2 0)] (zwi S I) (Sum.inl (some (zi (Int32.ofNat k))), zwi S I) := by
    have n1 : (Int32.ofNat k < 0) = False := by
      rw [Int32.lt_iff_toInt_lt, i_int (by omega), show (0 : Int32).toInt = 0 from rfl]
      exact eq_false (by omega)
    have n2 : (Int32.ofNat k < Int32.ofNat l) = True := by
      rw [i_lt (by omega) (by omega)]
      exact eq_true hk
    refine zcl_in' zP_J4_checkIndex ?_; rw [zn_3_3]
    refine zat_in zP_J4_checkIndex zk_J4_checkIndex_0 ?_
    simp only [b_J4_checkIndex_0, n1, n2, ↓reduceIte]
    refine ev_bk ?_
    refine zat_in zP_J4_checkIndex zk_J4_checkIndex_16 ?_; simp (disch := omega) only [b_J4_checkIndex_16, zif, zdr, zkb, mK_wi, mN_wi, mJ_wi, mI_wi, sI_wi, beq_self_eq_true, Bool.true_or, Bool.or_true, Bool.or_false, Bool.and_self, Bool.and_true, Bool.true_and, ↓reduceIte]
    exact ev_r
  have c15 : zCl E (d + 1) 15 [zi (Int32.ofNat k), zi (Int32.ofNat l)] (zwi S I) (Sum.inl none, zwi S I) := by
    refine zcl_in' zP_J3_checkIndex ?_; rw [zn_2_2]
    refine zat_in zP_J3_checkIndex zk_J3_checkIndex_0 ?_
    simp only [b_J3_checkIndex_0]
    refine ev_ci c17 ?_
    exact ev_r
  have c23 : zCl E (d + 2) 23 [zr (some sb), zi (Int32.ofNat k)] (zwi S I) (Sum.inl (some (zi (f k))), zwi S I) := by
    refine zcl_in' zP_J6_charAt ?_; rw [zn_2_2]
    refine zat_in zP_J6_charAt zk_J6_charAt_0 ?_
    simp (disch := omega) only [b_J6_charAt_0, zif, zdr, zkb, mK_wi, mN_wi, mJ_wi, mI_wi, sI_wi, beq_self_eq_true, Bool.true_or, Bool.or_true, Bool.or_false, Bool.and_self, Bool.and_true, Bool.true_and, ↓reduceIte, ble_up0, i_cl, i_succ, zix_of, zfl_k, zup_k, zup_q, s4, s5]
    refine ev_cv c15 ?_
    try simp (disch := omega) only [zif, zdr, zkb, mK_wi, mN_wi, mJ_wi, mI_wi, sI_wi, beq_self_eq_true, Bool.true_or, Bool.or_true, Bool.or_false, Bool.and_self, Bool.and_true, Bool.true_and, ↓reduceIte, ble_up0, i_cl, i_succ, zix_of, zfl_k, zup_k, zup_q, s4, s5, e1, e2, e3]
    exact ev_r
  have cl := sp_J3_isLatin1 (E := E) (d := d + 2) (S := S) (I := I) s1 s3
  refine zcl_in' zP_J3_charAt ?_; rw [zn_2_2]
  refine zat_in zP_J3_charAt zk_J3_charAt_0 ?_
  simp (disch := omega) only [b_J3_charAt_0, zif, zdr, zkb, mK_wi, mN_wi, mJ_wi, mI_wi, sI_wi, beq_self_eq_true, Bool.true_or, Bool.or_true, Bool.or_false, Bool.and_self, Bool.and_true, Bool.true_and, ↓reduceIte, ble_up0, i_cl, i_succ, zix_of, zfl_k, zup_k, zup_q, s1]
  refine ev_ci cl ?_
  try simp (disch := omega) only [zif, zdr, zkb, mK_wi, mN_wi, mJ_wi, mI_wi, sI_wi, beq_self_eq_true, Bool.true_or, Bool.or_true, Bool.or_false, Bool.and_self, Bool.and_true, Bool.true_and, ↓reduceIte, ble_up0, i_cl, i_succ, zix_of, zfl_k, zup_k, zup_q, i10, s1, s2]
  refine ev_ci c23 ?_
  try simp (disch := omega) only [zif, zdr, zkb, mK_wi, mN_wi, mJ_wi, mI_wi, sI_wi, beq_self_eq_true, Bool.true_or, Bool.or_true, Bool.or_false, Bool.and_self, Bool.and_true, Bool.true_and, ↓reduceIte, ble_up0, i_cl, i_succ, zix_of, zfl_k, zup_k, zup_q, e3]
  exact ev_r
theorem lp_X6_wordOf {s sb l : Nat} {f : Nat → Int32} (hs : xTx S I s sb f l) (hf : ltr f l) (hl : l < 9) : ∀ c k, k + c = l → zAt E (d + 4) 133 4 [some (zr (some s)), some (zl (Int64.ofNat (bs f k))), none, some (zi (Int32.ofNat k))] [] (zwi S I) (Sum.inl (some (zl (Int64.ofNat (bs f l)))), zwi S I) := by
  have cn := sp_J3_length (E := E) (d := d + 2) hs hl
  have e4 := @b_X6_wordOf_4
  have ks := hs.1
  intro c
  induction c with
  | zero =>
    intro k hk
    obtain rfl : k = l := hk
    refine zat_in zP_X6_wordOf zk_X6_wordOf_4 ?_
    simp (disch := omega) only [e4, zif, zdr, zkb, mK_wi, mN_wi, mJ_wi, mI_wi, sI_wi, beq_self_eq_true, Bool.true_or, Bool.or_true, Bool.or_false, Bool.and_self, Bool.and_true, Bool.true_and, ↓reduceIte, ble_up0, i_cl, i_succ, zix_of, zfl_k, zup_k, zup_q, ks]
    refine ev_ci cn ?_
    try simp (disch := omega) only [zif, zdr, zkb, mK_wi, mN_wi, mJ_wi, mI_wi, sI_wi, beq_self_eq_true, Bool.true_or, Bool.or_true, Bool.or_false, Bool.and_self, Bool.and_true, Bool.true_and, ↓reduceIte, ble_up0, i_cl, i_succ, zix_of, zfl_k, zup_k, zup_q, i_le, Nat.le_refl]
    refine ev_bk ?_
    refine zat_in zP_X6_wordOf zk_X6_wordOf_36 ?_; simp (disch := omega) only [b_X6_wordOf_36, zif, zdr, zkb, mK_wi, mN_wi, mJ_wi, mI_wi, sI_wi, beq_self_eq_true, Bool.true_or, Bool.or_true, Bool.or_false, Bool.and_self, Bool.and_true, Bool.true_and, ↓reduceIte]
    exact ev_r
  | succ c ih =>
    intro k hk
    have l1 : (l ≤ k) = False := eq_false (by omega)
    obtain ⟨f1, f2, f3⟩ := hf k (by omega)
    have cc := sp_J3_charAt (E := E) (d := d) hs hf hl (show k < l by omega)
    have e5 : Int32.toInt64 ((f k - 97) + 1) = Int64.ofNat (nn (f k) - 96) := by
      have := l26 (nn (f k)) (by omega) f2
      rw [← f1] at this
      exact this
    have e6 : Int64.ofNat 32 * Int64.ofNat (bs f k) + Int64.ofNat (nn (f k) - 96) = Int64.ofNat (bs f (k + 1)) := by
      rw [← Int64.ofNat_mul, ← Int64.ofNat_add]
      rfl
    have := ih (k + 1) (by omega)
    refine zat_in zP_X6_wordOf zk_X6_wordOf_4 ?_
    simp (disch := omega) only [e4, zif, zdr, zkb, mK_wi, mN_wi, mJ_wi, mI_wi, sI_wi, beq_self_eq_true, Bool.true_or, Bool.or_true, Bool.or_false, Bool.and_self, Bool.and_true, Bool.true_and, ↓reduceIte, ble_up0, i_cl, i_succ, zix_of, zfl_k, zup_k, zup_q, ks]
    refine ev_ci cn ?_
    try simp (disch := omega) only [zif, zdr, zkb, mK_wi, mN_wi, mJ_wi, mI_wi, sI_wi, beq_self_eq_true, Bool.true_or, Bool.or_true, Bool.or_false, Bool.and_self, Bool.and_true, Bool.true_and, ↓reduceIte, ble_up0, i_cl, i_succ, zix_of, zfl_k, zup_k, zup_q, i_le, l1, ks]
    refine ev_ci cc ?_
    try simp (disch := omega) only [zif, zdr, zkb, mK_wi, mN_wi, mJ_wi, mI_wi, sI_wi, beq_self_eq_true, Bool.true_or, Bool.or_true, Bool.or_false, Bool.and_self, Bool.and_true, Bool.true_and, ↓reduceIte, ble_up0, i_cl, i_succ, zix_of, zfl_k, zup_k, zup_q, e5, e6]
    exact ev_bk this
theorem sp_X6_wordOf (hT : xTX E S I w) (hi : i < 47) : zCl E (d + 4) 133 [zr (some (E.2.1 i))] (zwi S I) (Sum.inl (some (zl (Int64.ofNat (val i)))), zwi S I) := by
  obtain ⟨tb, h1, h2, h3⟩ := hT i hi
  have h8 := zw_8 i hi
  have e0 := @b_X6_wordOf_0
  refine zcl_in' zP_X6_wordOf ?_; rw [zn_1_4]
  refine zat_in zP_X6_wordOf zk_X6_wordOf_0 ?_
  simp only [e0]
  refine ev_tl zP_X6_wordOf zk_X6_wordOf_4 ?_
  exact lp_X6_wordOf h3 (zw_ltr i hi) (by omega) (zwl i) 0 (Nat.zero_add _)
theorem i64_eq {a b : Nat} (ha : a < 9223372036854775808) (hb : b < 9223372036854775808) : (Int64.ofNat a = Int64.ofNat b) ↔ a = b := by
  constructor
  · intro h
    have h1 := congrArg Int64.toInt h
    rw [Int64.toInt_ofNat_of_lt ha, Int64.toInt_ofNat_of_lt hb] at h1
    exact Int.ofNat_inj.1 h1
  · intro h
    rw [h]
theorem val_lt (hi : i < 47) : val i < 1099511627776 := by
  have h1 := bs_lt _ (zw_ltr i hi)
  have h2 : 32 ^ zwl i ≤ 32 ^ 8 := Nat.pow_le_pow_right (by omega) (zw_8 i hi)
  unfold val
  omega
theorem mso_2 {k : Int32} : (mso k = 2) = (k = 2) := by
  unfold mso
  apply propext
  by_cases h0 : k = 0
  · rw [h0]; decide
  · by_cases h1 : k = 1
    · rw [h1]; decide
    · by_cases h2 : k = 2
      · rw [h2]; decide
      · by_cases h3 : k = 3
        · rw [h3]; decide
        · rw [if_neg h0, if_neg h1, if_neg h2, if_neg h3]
          exact ⟨fun q => absurd q (by decide), fun q => absurd q h2⟩
theorem mso_3 {k : Int32} : (mso k = 3) = (k = 3) := by
  unfold mso
  apply propext
  by_cases h0 : k = 0
  · rw [h0]; decide
  · by_cases h1 : k = 1
    · rw [h1]; decide
    · by_cases h2 : k = 2
      · rw [h2]; decide
      · by_cases h3 : k = 3
        · rw [h3]; decide
        · rw [if_neg h0, if_neg h1, if_neg h2, if_neg h3]
          exact ⟨fun q => absurd q (by decide), fun q => absurd q h3⟩
theorem mso_1 {k : Int32} : (mso k = 1) = (k = 0) := by
  unfold mso
  apply propext
  by_cases h0 : k = 0
  · rw [h0]; decide
  · by_cases h1 : k = 1
    · rw [h1]; decide
    · by_cases h2 : k = 2
      · rw [h2]; decide
      · by_cases h3 : k = 3
        · rw [h3]; decide
        · rw [if_neg h0, if_neg h1, if_neg h2, if_neg h3]
          exact ⟨fun q => absurd q (by decide), fun q => absurd q h0⟩
theorem sp_X6_isWord (hR : mRD E S g I w X e) (hi : i < 47) : zCl E (d + 5) 132 [zr (some w), zr (some (E.2.1 i))] (zwi (zwg S g) I) (Sum.inl (some (zi (iw X e i))), zwi (zwg S g) I) := by
  have w0 := hR.1.1.1
  have e26 := hR.2.2.1.2.2.1
  have e24 := @b_X6_isWord_24
  have e0 := @b_X6_isWord_0
  have g25 : ∀ v : Int32, v = 0 ∨ v = 1 → zAt E (d + 5) 132 25 [some (zr (some w)), some (zr (some (E.2.1 i)))] [zi v] (zwi (zwg S g) I) (Sum.inl (some (zi v)), zwi (zwg S g) I) := by
    intro v hv
    refine zat_in zP_X6_isWord zk_X6_isWord_25 ?_; simp (disch := omega) only [b_X6_isWord_25, zif, zdr, zkb, mK_wi, mN_wi, mJ_wi, mI_wi, sI_wi, beq_self_eq_true, Bool.true_or, Bool.or_true, Bool.or_false, Bool.and_self, Bool.and_true, Bool.true_and, ↓reduceIte, z01 hv]
    exact ev_r
  have g24 : zAt E (d + 5) 132 24 [some (zr (some w)), some (zr (some (E.2.1 i)))] [] (zwi (zwg S g) I) (Sum.inl (some (zi 0)), zwi (zwg S g) I) := by
    refine zat_in zP_X6_isWord zk_X6_isWord_24 ?_
    simp only [e24]
    exact ev_tl zP_X6_isWord zk_X6_isWord_25 (g25 0 (Or.inl rfl))
  unfold iw
  refine zcl_in' zP_X6_isWord ?_; rw [zn_2_2]
  by_cases hk : tK X e = 2
  · have d1 := eq_true hk
    have cw := sp_X6_wordOf (E := E) (d := d) (S := zwg S g) hR.2.1 hi
    have eg : mG (zwi (zwg S g) I) w 30 = Int64.ofNat (tV X e) := hR.2.2.1.2.2.2.2.2.2 hk
    have hv := tV_lt hk
    have hv2 := val_lt hi
    refine zat_in zP_X6_isWord zk_X6_isWord_0 ?_
    simp (disch := omega) only [e0, zif, zdr, zkb, mK_wi, mN_wi, mJ_wi, mI_wi, sI_wi, beq_self_eq_true, Bool.true_or, Bool.or_true, Bool.or_false, Bool.and_self, Bool.and_true, Bool.true_and, ↓reduceIte, ble_up0, i_cl, i_succ, zix_of, zfl_k, zup_k, zup_q, w0, mK_wg, e26, mso_2, d1, eg]
    refine ev_cg cw ?_
    by_cases c : tV X e = val i
    · rw [if_pos ⟨trivial, c⟩]
      refine ev_th _ (fun _ => ev_bk (g25 1 (Or.inr rfl))) (fun h => absurd ?_ h)
      exact (lg_cmp_eq _ _).2 (by rw [c])
    · rw [if_neg (fun q => c q.2)]
      refine ev_th _ (fun h => ?_) (fun _ => ev_bk g24)
      have := (lg_cmp_eq _ _).1 h
      exact absurd ((i64_eq (by omega) (by omega)).1 this) c
  · rw [if_neg (fun q => hk q.1)]
    have d1 := eq_false hk
    refine zat_in zP_X6_isWord zk_X6_isWord_0 ?_
    simp (disch := omega) only [e0, zif, zdr, zkb, mK_wi, mN_wi, mJ_wi, mI_wi, sI_wi, beq_self_eq_true, Bool.true_or, Bool.or_true, Bool.or_false, Bool.and_self, Bool.and_true, Bool.true_and, ↓reduceIte, ble_up0, i_cl, i_succ, zix_of, zfl_k, zup_k, zup_q, w0, mK_wg, e26, mso_2, d1]
    exact ev_bk g24
/-- whether the token is the sign v -/
def isg (X : zTx) (e : Nat) (v : Int32) : Int32 := if tK X e = v then 1 else 0
theorem sp_X6_is (hv : v = 59 ∨ v = 60 ∨ v = 62) (hR : mRD E S g I w X e) : zCl E d 138 [zr (some w), zi v] (zwi (zwg S g) I) (Sum.inl (some (zi (isg X e v))), zwi (zwg S g) I) := by
  have w0 := hR.1.1.1
  have e26 := hR.2.2.1.2.2.1
  have e28 := hR.2.2.1.2.2.2.2.1
  have e0 := @b_X6_is_0
  have e20 := @b_X6_is_20
  have g21 : ∀ v' : Int32, v' = 0 ∨ v' = 1 → zAt E d 138 21 [some (zr (some w)), some (zi v)] [zi v'] (zwi (zwg S g) I) (Sum.inl (some (zi v')), zwi (zwg S g) I) := by
    intro v' hv
    refine zat_in zP_X6_is zk_X6_is_21 ?_; simp (disch := omega) only [b_X6_is_21, zif, zdr, zkb, mK_wi, mN_wi, mJ_wi, mI_wi, sI_wi, beq_self_eq_true, Bool.true_or, Bool.or_true, Bool.or_false, Bool.and_self, Bool.and_true, Bool.true_and, ↓reduceIte, z01 hv]
    exact ev_r
  have g20 : zAt E d 138 20 [some (zr (some w)), some (zi v)] [] (zwi (zwg S g) I) (Sum.inl (some (zi 0)), zwi (zwg S g) I) := by
    refine zat_in zP_X6_is zk_X6_is_20 ?_
    simp only [e20]
    exact ev_tl zP_X6_is zk_X6_is_21 (g21 0 (Or.inl rfl))
  unfold isg
  refine zcl_in' zP_X6_is ?_; rw [zn_2_2]
  by_cases c : tK X e = v
  · rw [if_pos c]
    have m1 : (mso v = 4) = True := by
      rcases hv with rfl | rfl | rfl <;> exact eq_true (by decide)
    have m2 : (msg v = v) = True := by
      rcases hv with rfl | rfl | rfl <;> exact eq_true (by decide)
    refine zat_in zP_X6_is zk_X6_is_0 ?_
    simp (disch := omega) only [e0, zif, zdr, zkb, mK_wi, mN_wi, mJ_wi, mI_wi, sI_wi, beq_self_eq_true, Bool.true_or, Bool.or_true, Bool.or_false, Bool.and_self, Bool.and_true, Bool.true_and, ↓reduceIte, ble_up0, i_cl, i_succ, zix_of, zfl_k, zup_k, zup_q, w0, mK_wg, e26, e28, c, m1, m2]
    exact ev_bk (g21 1 (Or.inr rfl))
  · rw [if_neg c]
    have nv : v ≠ 0 := by
      rcases hv with rfl | rfl | rfl <;> decide
    by_cases c4 : mso (tK X e) = 4
    · have d4 := eq_true c4
      have m2 : (msg (tK X e) = v) = False := by
        refine eq_false (fun q => ?_)
        unfold msg at q
        split at q
        · exact nv q.symm
        · exact c q
      refine zat_in zP_X6_is zk_X6_is_0 ?_
      simp (disch := omega) only [e0, zif, zdr, zkb, mK_wi, mN_wi, mJ_wi, mI_wi, sI_wi, beq_self_eq_true, Bool.true_or, Bool.or_true, Bool.or_false, Bool.and_self, Bool.and_true, Bool.true_and, ↓reduceIte, ble_up0, i_cl, i_succ, zix_of, zfl_k, zup_k, zup_q, w0, mK_wg, e26, e28, d4, m2]
      exact ev_bk g20
    · have d4 := eq_false c4
      refine zat_in zP_X6_is zk_X6_is_0 ?_
      simp (disch := omega) only [e0, zif, zdr, zkb, mK_wi, mN_wi, mJ_wi, mI_wi, sI_wi, beq_self_eq_true, Bool.true_or, Bool.or_true, Bool.or_false, Bool.and_self, Bool.and_true, Bool.true_and, ↓reduceIte, ble_up0, i_cl, i_succ, zix_of, zfl_k, zup_k, zup_q, w0, mK_wg, e26, e28, d4]
      exact ev_bk g20
theorem sp_X6_stop {f : Int32} (hB : E.1 ≤ w) (hR : mRD E S g I w X e) : zCl E d 135 [zr (some w), zi f] (zwi (zwg S g) I) (Sum.inl (some (zr (some (w + 19)))), zwi (zwg S g) (zup (zup I (w + 19) 6 f) (w + 19) 7 (Int32.ofNat (kA X e)))) := by
  have w0 := hR.1.1.1
  have j21 := hR.1.2.1
  have k19 := hR.1.2.2
  have e27 := hR.2.2.1.2.2.2.1
  have e0 := @b_X6_stop_0
  refine zcl_in' zP_X6_stop ?_; rw [zn_2_2]
  refine zat_in zP_X6_stop zk_X6_stop_0 ?_
  simp (disch := omega) only [e0, zif, zdr, zkb, mK_wi, mN_wi, mJ_wi, mI_wi, sI_wi, beq_self_eq_true, Bool.true_or, Bool.or_true, Bool.or_false, Bool.and_self, Bool.and_true, Bool.true_and, ↓reduceIte, ble_up0, i_cl, i_succ, zix_of, zfl_k, zup_k, zup_q, w0, mK_wg, mJ_wg, j21, k19, e27]
  exact ev_r
theorem mTh_i {f : Int32} {p : Nat} : mTh (zup (zup I (w + 19) 6 f) (w + 19) 7 (Int32.ofNat p)) w f p := ⟨by rw [zup_k (by omega), zup_q], zup_q _ _ _ _⟩
theorem mQf_th {f : Int32} {p : Nat} : mQf w q I (zup (zup I (w + 19) 6 f) (w + 19) 7 (Int32.ofNat p)) := fun a k _ h2 _ _ => by rw [zup_k (by omega), zup_k (by omega)]
theorem sp_X6_needNumber_1 (hB : E.1 ≤ w) (hR : mRD E S g I w X e) (h : tK X e = 3) : ∃ g' I', zCl E (d + 2) 139 [zr (some w)] (zwi (zwg S g) I) (Sum.inl (some (zi (tN X e))), zwi (zwg S g') I') ∧ mRD E S g' I' w X (tE X e) ∧ mFr w I I' := by
  have w0 := hR.1.1.1
  have e26 := hR.2.2.1.2.2.1
  have e29 := hR.2.2.1.2.2.2.2.2.1 h
  have d1 := eq_true h
  obtain ⟨g1, I1, a1, b1, f1⟩ := hR.nx (d := d) hB (by rw [h]; decide)
  refine ⟨g1, I1, ?_, b1, f1⟩
  have e14 := @b_X6_needNumber_14
  refine zcl_in' zP_X6_needNumber ?_; rw [zn_1_2]
  refine zat_in zP_X6_needNumber zk_X6_needNumber_0 ?_
  simp (disch := omega) only [b_X6_needNumber_0, zif, zdr, zkb, mK_wi, mN_wi, mJ_wi, mI_wi, sI_wi, beq_self_eq_true, Bool.true_or, Bool.or_true, Bool.or_false, Bool.and_self, Bool.and_true, Bool.true_and, ↓reduceIte, ble_up0, i_cl, i_succ, zix_of, zfl_k, zup_k, zup_q, w0, mK_wg, e26, mso_3, d1]
  refine ev_bk ?_
  refine zat_in zP_X6_needNumber zk_X6_needNumber_14 ?_
  simp (disch := omega) only [e14, zif, zdr, zkb, mK_wi, mN_wi, mJ_wi, mI_wi, sI_wi, beq_self_eq_true, Bool.true_or, Bool.or_true, Bool.or_false, Bool.and_self, Bool.and_true, Bool.true_and, ↓reduceIte, ble_up0, i_cl, i_succ, zix_of, zfl_k, zup_k, zup_q, w0, mK_wg, e29]
  refine ev_cv a1 ?_
  exact ev_r
theorem sp_X6_needNumber_0 (hB : E.1 ≤ w) (hR : mRD E S g I w X e) (h : tK X e ≠ 3) : ∃ I', zCl E (d + 1) 139 [zr (some w)] (zwi (zwg S g) I) (Sum.inr (w + 19), zwi (zwg S g) I') ∧ mTh I' w 1 (kA X e) ∧ ∀ q, mQf w q I I' := by
  have w0 := hR.1.1.1
  have k19 := hR.1.2.2
  have e26 := hR.2.2.1.2.2.1
  have d1 := eq_false h
  have cs := sp_X6_stop (E := E) (d := d) (f := 1) hB hR
  refine ⟨_, ?_, mTh_i, fun _ => mQf_th⟩
  refine zcl_in' zP_X6_needNumber ?_; rw [zn_1_2]
  refine zat_in zP_X6_needNumber zk_X6_needNumber_0 ?_
  simp (disch := omega) only [b_X6_needNumber_0, zif, zdr, zkb, mK_wi, mN_wi, mJ_wi, mI_wi, sI_wi, beq_self_eq_true, Bool.true_or, Bool.or_true, Bool.or_false, Bool.and_self, Bool.and_true, Bool.true_and, ↓reduceIte, ble_up0, i_cl, i_succ, zix_of, zfl_k, zup_k, zup_q, w0, mK_wg, e26, mso_3, d1]
  refine ev_cr cs ?_
  try simp (disch := omega) only [zif, zdr, zkb, mK_wi, mN_wi, mJ_wi, mI_wi, sI_wi, beq_self_eq_true, Bool.true_or, Bool.or_true, Bool.or_false, Bool.and_self, Bool.and_true, Bool.true_and, ↓reduceIte, ble_up0, i_cl, i_succ, zix_of, zfl_k, zup_k, zup_q, mK_wg, k19]
  exact ev_r
theorem sp_X6_needWord_1 (hB : E.1 ≤ w) (hR : mRD E S g I w X e) (hi : i < 47) (h : isw X e i) : ∃ g' I', zCl E (d + 6) 143 [zr (some w), zr (some (E.2.1 i))] (zwi (zwg S g) I) (Sum.inl none, zwi (zwg S g') I') ∧ mRD E S g' I' w X (tE X e) ∧ mFr w I I' := by
  have w0 := hR.1.1.1
  have cw := sp_X6_isWord (E := E) (d := d) hR hi
  rw [iw_1 h] at cw
  obtain ⟨g1, I1, a1, b1, f1⟩ := hR.nx (d := d + 4) hB (by rw [h.1]; decide)
  refine ⟨g1, I1, ?_, b1, f1⟩
  have e14 := @b_X6_needWord_14
  refine zcl_in' zP_X6_needWord ?_; rw [zn_2_2]
  refine zat_in zP_X6_needWord zk_X6_needWord_0 ?_
  simp (disch := omega) only [b_X6_needWord_0, zif, zdr, zkb, mK_wi, mN_wi, mJ_wi, mI_wi, sI_wi, beq_self_eq_true, Bool.true_or, Bool.or_true, Bool.or_false, Bool.and_self, Bool.and_true, Bool.true_and, ↓reduceIte, ble_up0, i_cl, i_succ, zix_of, zfl_k, zup_k, zup_q, w0, mK_wg]
  refine ev_ci cw ?_
  refine ev_th _ (fun h => absurd h (by decide)) (fun _ => ?_)
  refine ev_bk ?_
  refine zat_in zP_X6_needWord zk_X6_needWord_14 ?_
  simp (disch := omega) only [e14, zif, zdr, zkb, mK_wi, mN_wi, mJ_wi, mI_wi, sI_wi, beq_self_eq_true, Bool.true_or, Bool.or_true, Bool.or_false, Bool.and_self, Bool.and_true, Bool.true_and, ↓reduceIte, ble_up0, i_cl, i_succ, zix_of, zfl_k, zup_k, zup_q, w0, mK_wg]
  refine ev_cv a1 ?_
  exact ev_r
theorem sp_X6_needWord_0 (hB : E.1 ≤ w) (hR : mRD E S g I w X e) (hi : i < 47) (h : ¬ isw X e i) : ∃ I', zCl E (d + 6) 143 [zr (some w), zr (some (E.2.1 i))] (zwi (zwg S g) I) (Sum.inr (w + 19), zwi (zwg S g) I') ∧ mTh I' w 1 (kA X e) ∧ ∀ q, mQf w q I I' := by
  have w0 := hR.1.1.1
  have k19 := hR.1.2.2
  have cw := sp_X6_isWord (E := E) (d := d) hR hi
  rw [iw_0 h] at cw
  have cs := sp_X6_stop (E := E) (d := d + 5) (f := 1) hB hR
  refine ⟨_, ?_, mTh_i, fun _ => mQf_th⟩
  refine zcl_in' zP_X6_needWord ?_; rw [zn_2_2]
  refine zat_in zP_X6_needWord zk_X6_needWord_0 ?_
  simp (disch := omega) only [b_X6_needWord_0, zif, zdr, zkb, mK_wi, mN_wi, mJ_wi, mI_wi, sI_wi, beq_self_eq_true, Bool.true_or, Bool.or_true, Bool.or_false, Bool.and_self, Bool.and_true, Bool.true_and, ↓reduceIte, ble_up0, i_cl, i_succ, zix_of, zfl_k, zup_k, zup_q, w0, mK_wg]
  refine ev_ci cw ?_
  refine ev_th _ (fun _ => ?_) (fun h => (h (by first | rfl | trivial)).elim)
  simp (disch := omega) only [zif, zdr, zkb, mK_wi, mN_wi, mJ_wi, mI_wi, sI_wi, beq_self_eq_true, Bool.true_or, Bool.or_true, Bool.or_false, Bool.and_self, Bool.and_true, Bool.true_and, ↓reduceIte, ble_up0, i_cl, i_succ, zix_of, zfl_k, zup_k, zup_q, w0, mK_wg]
  refine ev_cr cs ?_
  try simp (disch := omega) only [zif, zdr, zkb, mK_wi, mN_wi, mJ_wi, mI_wi, sI_wi, beq_self_eq_true, Bool.true_or, Bool.or_true, Bool.or_false, Bool.and_self, Bool.and_true, Bool.true_and, ↓reduceIte, ble_up0, i_cl, i_succ, zix_of, zfl_k, zup_k, zup_q, mK_wg, k19]
  exact ev_r
end
