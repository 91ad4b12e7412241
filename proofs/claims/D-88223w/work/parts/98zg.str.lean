/-! ===== memory with new cells; texts as arrays ===== -/
set_option maxRecDepth 100000
def zwn (I : Nat → Nat → Int32) (m : Nat) : Nat → Nat → Int32 := fun a k => if a = m then 0 else I a k
section
variable {S : zM} {I J : Nat → Nat → Int32} {κ n w a k m : Nat} {v : Int32} {o : Option Nat} {g : Int64}
theorem al_wi : zal (zwi S I) κ n w = zwi (zal S κ n w) (zwn I (mS S)) := rfl
theorem sJ_wi : sJ (zwi S I) a k o = zwi (sJ S a k o) I := rfl
theorem sG_wi : sG (zwi S I) a k g = zwi (sG S a k g) I := rfl
theorem mK_al_q (h : a = mS S) : mK (zal S κ n w) a = κ := if_pos h
theorem mK_al_k (h : a ≠ mS S) : mK (zal S κ n w) a = mK S a := if_neg h
theorem mN_al_q (h : a = mS S) : mN (zal S κ n w) a = n := if_pos h
theorem mN_al_k (h : a ≠ mS S) : mN (zal S κ n w) a = mN S a := if_neg h
theorem mJ_al_q (h : a = mS S) : mJ (zal S κ n w) a k = none := if_pos h
theorem mJ_al_k (h : a ≠ mS S) : mJ (zal S κ n w) a k = mJ S a k := if_neg h
theorem mS_al : mS (zal S κ n w) = mS S + 1 := rfl
theorem mU_al : mU (zal S κ n w) = mU S + w := rfl
theorem mK_sJ : mK (sJ S a k o) = mK S := rfl
theorem mN_sJ : mN (sJ S a k o) = mN S := rfl
theorem mJ_sJ : mJ (sJ S a k o) = zup (mJ S) a k o := rfl
theorem mS_sJ : mS (sJ S a k o) = mS S := rfl
theorem mU_sJ : mU (sJ S a k o) = mU S := rfl
theorem mK_sG : mK (sG S a k g) = mK S := rfl
theorem mN_sG : mN (sG S a k g) = mN S := rfl
theorem mJ_sG : mJ (sG S a k g) = mJ S := rfl
theorem mG_sG : mG (sG S a k g) = zup (mG S) a k g := rfl
theorem mS_sG : mS (sG S a k g) = mS S := rfl
theorem mU_sG : mU (sG S a k g) = mU S := rfl
theorem zwn_q (h : a = m) : zwn I m a k = 0 := if_pos h
theorem zwn_k (h : a ≠ m) : zwn I m a k = I a k := if_neg h
end
theorem z10 : ((1 : Nat) = 0) = False := eq_false (by decide)
theorem i10 : ((1 : Int32) = 0) = False := eq_false (by decide)
theorem b8 : ∀ v, v < 128 → Int8.toInt32 (Int32.toInt8 (Int32.ofNat v)) = Int32.ofNat v := by decide +kernel
theorem c16 : ∀ v, v < 128 → UInt32.toInt32 (Int32.toUInt32 (Int32.ofNat v) % 65536) = Int32.ofNat v := by decide +kernel
theorem a255 : ∀ v, v < 128 → Int32.ofNat v &&& 255 = Int32.ofNat v := by decide +kernel
theorem sz_of {n : Nat} (h : n < 65536) : zsz (Int32.ofNat n) = true := by
  unfold zsz
  rw [i_cl (by omega), decide_eq_true (by rw [Int32.le_iff_toInt_le, i_int (by omega)]; exact Int.natCast_nonneg n), decide_eq_true h]
  rfl
theorem i_nz {n : Nat} (h : n < 2147483648) : (Int32.ofNat n = 0) = (n = 0) := i_eq (b := 0) h (by omega)
theorem i_n1 {n : Nat} (h : n < 2147483648) : (Int32.ofNat n = 1) = (n = 1) := i_eq (b := 1) h (by omega)
section
variable {E : zE} {d a b l m s t : Nat} {S : zM} {I : Nat → Nat → Int32} {f g : Nat → Int32} {v : Int32}
/-! arrays of bytes against each other -/
theorem lp_J6_equals_1 (ka : mK S a = 102) (kb : mK S b = 102) (na : mN S a = l) (nb : mN S b = l) (hl : l < 65536) (h : ∀ j, j < l → I a j = I b j) : ∀ c k : Nat, k + c = l → zAt E d 21 9 [some (zr (some a)), some (zr (some b)), some (zi (Int32.ofNat k))] [] (zwi S I) (Sum.inl (some (zi 1)), zwi S I) := by
  intro c
  induction c with
  | zero =>
    intro k hk
    obtain rfl : k = l := hk
    refine zat_in zP_J6_equals zk_J6_equals_9 ?_
    simp (disch := omega) only [b_J6_equals_9, zif, zdr, zkb, mK_wi, mN_wi, mJ_wi, mI_wi, sI_wi, beq_self_eq_true, Bool.true_or, Bool.or_true, Bool.or_false, Bool.and_self, Bool.and_true, Bool.true_and, ↓reduceIte, ble_up0, i_cl, i_succ, zix_of, zfl_k, zup_k, zup_q, ka, na, i_le, Nat.le_refl]
    refine ev_bk ?_
    refine zat_in zP_J6_equals zk_J6_equals_32 ?_; simp (disch := omega) only [b_J6_equals_32, zif, zdr, zkb, mK_wi, mN_wi, mJ_wi, mI_wi, sI_wi, beq_self_eq_true, Bool.true_or, Bool.or_true, Bool.or_false, Bool.and_self, Bool.and_true, Bool.true_and, ↓reduceIte]
    exact ev_r
  | succ c ih =>
    intro k hk
    have h1 : (l ≤ k) = False := eq_false (by omega)
    refine zat_in zP_J6_equals zk_J6_equals_9 ?_
    simp (disch := omega) only [b_J6_equals_9, zif, zdr, zkb, mK_wi, mN_wi, mJ_wi, mI_wi, sI_wi, beq_self_eq_true, Bool.true_or, Bool.or_true, Bool.or_false, Bool.and_self, Bool.and_true, Bool.true_and, ↓reduceIte, ble_up0, i_cl, i_succ, zix_of, zfl_k, zup_k, zup_q, ka, kb, na, nb, i_le, h1, h k (by omega)]
    refine ev_bk ?_
    refine zat_in zP_J6_equals zk_J6_equals_26 ?_; simp (disch := omega) only [b_J6_equals_26, zif, zdr, zkb, mK_wi, mN_wi, mJ_wi, mI_wi, sI_wi, beq_self_eq_true, Bool.true_or, Bool.or_true, Bool.or_false, Bool.and_self, Bool.and_true, Bool.true_and, ↓reduceIte, ble_up0, i_cl, i_succ, zix_of, zfl_k, zup_k, zup_q]
    exact ev_bk (ih (k + 1) (by omega))
theorem lp_J6_equals_0 (ka : mK S a = 102) (kb : mK S b = 102) (na : mN S a = l) (nb : mN S b = l) (hl : l < 65536) : ∀ c k : Nat, k + c = l → (¬ ∀ j, k ≤ j → j < l → I a j = I b j) → zAt E d 21 9 [some (zr (some a)), some (zr (some b)), some (zi (Int32.ofNat k))] [] (zwi S I) (Sum.inl (some (zi 0)), zwi S I) := by
  intro c
  induction c with
  | zero =>
    intro k hk h
    exact absurd (fun j h1 h2 => by omega) h
  | succ c ih =>
    intro k hk h
    have h1 : (l ≤ k) = False := eq_false (by omega)
    by_cases e : I a k = I b k
    · refine zat_in zP_J6_equals zk_J6_equals_9 ?_
      simp (disch := omega) only [b_J6_equals_9, zif, zdr, zkb, mK_wi, mN_wi, mJ_wi, mI_wi, sI_wi, beq_self_eq_true, Bool.true_or, Bool.or_true, Bool.or_false, Bool.and_self, Bool.and_true, Bool.true_and, ↓reduceIte, ble_up0, i_cl, i_succ, zix_of, zfl_k, zup_k, zup_q, ka, kb, na, nb, i_le, h1, e]
      refine ev_bk ?_
      refine zat_in zP_J6_equals zk_J6_equals_26 ?_; simp (disch := omega) only [b_J6_equals_26, zif, zdr, zkb, mK_wi, mN_wi, mJ_wi, mI_wi, sI_wi, beq_self_eq_true, Bool.true_or, Bool.or_true, Bool.or_false, Bool.and_self, Bool.and_true, Bool.true_and, ↓reduceIte, ble_up0, i_cl, i_succ, zix_of, zfl_k, zup_k, zup_q]
      refine ev_bk (ih (k + 1) (by omega) (fun q => h (fun j h2 h3 => ?_)))
      by_cases q2 : j = k
      · rw [q2]
        exact e
      · exact q j (by omega) h3
    · have e1 := eq_false e
      refine zat_in zP_J6_equals zk_J6_equals_9 ?_
      simp (disch := omega) only [b_J6_equals_9, zif, zdr, zkb, mK_wi, mN_wi, mJ_wi, mI_wi, sI_wi, beq_self_eq_true, Bool.true_or, Bool.or_true, Bool.or_false, Bool.and_self, Bool.and_true, Bool.true_and, ↓reduceIte, ble_up0, i_cl, i_succ, zix_of, zfl_k, zup_k, zup_q, ka, kb, na, nb, i_le, h1, e1]
      exact ev_r
theorem sp_J6_equals (ka : mK S a = 102) (kb : mK S b = 102) (na : mN S a = l) (nb : mN S b = m) (hl : l < 65536) (hm : m < 65536) (hv : (v = 1 ∧ l = m ∧ ∀ j, j < l → I a j = I b j) ∨ (v = 0 ∧ ¬ (l = m ∧ ∀ j, j < l → I a j = I b j))) : zCl E d 21 [zr (some a), zr (some b)] (zwi S I) (Sum.inl (some (zi v)), zwi S I) := by
  refine zcl_in' zP_J6_equals ?_; rw [zn_2_3]
  by_cases e : l = m
  · subst e
    have h0 := @b_J6_equals_0
    refine zat_in zP_J6_equals zk_J6_equals_0 ?_
    simp (disch := omega) only [h0, zif, zdr, zkb, mK_wi, mN_wi, mJ_wi, mI_wi, sI_wi, beq_self_eq_true, Bool.true_or, Bool.or_true, Bool.or_false, Bool.and_self, Bool.and_true, Bool.true_and, ↓reduceIte, ble_up0, i_cl, i_succ, zix_of, zfl_k, zup_k, zup_q, ka, kb, na, nb]
    refine ev_tl zP_J6_equals zk_J6_equals_9 ?_
    rcases hv with ⟨rfl, -, h⟩ | ⟨rfl, h⟩
    · exact lp_J6_equals_1 ka kb na nb hl h l 0 (Nat.zero_add _)
    · exact lp_J6_equals_0 ka kb na nb hl l 0 (Nat.zero_add _) (fun q => h ⟨rfl, fun j hj => q j (by omega) hj⟩)
  · rcases hv with ⟨rfl, h, -⟩ | ⟨rfl, h⟩
    · exact absurd h e
    · have e1 : (l = m) = False := eq_false e
      refine zat_in zP_J6_equals zk_J6_equals_0 ?_
      simp (disch := omega) only [b_J6_equals_0, zif, zdr, zkb, mK_wi, mN_wi, mJ_wi, mI_wi, sI_wi, beq_self_eq_true, Bool.true_or, Bool.or_true, Bool.or_false, Bool.and_self, Bool.and_true, Bool.true_and, ↓reduceIte, ble_up0, i_cl, i_succ, zix_of, zfl_k, zup_k, zup_q, ka, kb, na, nb, i_eq, e1]
      refine ev_bk ?_
      refine zat_in zP_J6_equals zk_J6_equals_34 ?_; simp (disch := omega) only [b_J6_equals_34, zif, zdr, zkb, mK_wi, mN_wi, mJ_wi, mI_wi, sI_wi, beq_self_eq_true, Bool.true_or, Bool.or_true, Bool.or_false, Bool.and_self, Bool.and_true, Bool.true_and, ↓reduceIte]
      exact ev_r
/-- a text of the memory: its array, its letters -/
def xTx (S : zM) (I : Nat → Nat → Int32) (s sb : Nat) (f : Nat → Int32) (l : Nat) : Prop := mK S s = 17 ∧ mJ S s 0 = some sb ∧ I s 1 = 0 ∧ mK S sb = 102 ∧ mN S sb = l ∧ ∀ j, j < l → I sb j = f j
theorem sp_J3_equals {sb tb : Nat} (hs : xTx S I s sb f l) (ht : xTx S I t tb g m) (hst : s ≠ t) (hl : l < 65536) (hm : m < 65536) (hv : (v = 1 ∧ l = m ∧ ∀ j, j < l → f j = g j) ∨ (v = 0 ∧ ¬ (l = m ∧ ∀ j, j < l → f j = g j))) : zCl E (d + 1) 9 [zr (some s), zr (some t)] (zwi S I) (Sum.inl (some (zi v)), zwi S I) := by
  obtain ⟨s1, s2, s3, s4, s5, s6⟩ := hs
  obtain ⟨t1, t2, t3, t4, t5, t6⟩ := ht
  have he : (some s = some t) = False := eq_false (fun q => hst (Option.some.inj q))
  have hv' : (v = 1 ∧ l = m ∧ ∀ j, j < l → I sb j = I tb j) ∨ (v = 0 ∧ ¬ (l = m ∧ ∀ j, j < l → I sb j = I tb j)) := by
    rcases hv with ⟨h1, h2, h3⟩ | ⟨h1, h2⟩
    · exact Or.inl ⟨h1, h2, fun j hj => by rw [s6 j hj, t6 j (by omega)]; exact h3 j hj⟩
    · refine Or.inr ⟨h1, fun q => h2 ⟨q.1, fun j hj => ?_⟩⟩
      have := q.2 j hj
      rw [s6 j hj, t6 j (by omega)] at this
      exact this
  have hb : (v == 0 || v == 1) = true := by
    rcases hv with ⟨rfl, -⟩ | ⟨rfl, -⟩ <;> rfl
  have ce := sp_J6_equals (E := E) (d := d) s4 t4 s5 t5 hl hm hv'
  have e54 := @b_J3_equals_54
  refine zcl_in' zP_J3_equals ?_; rw [zn_2_3]
  refine zat_in zP_J3_equals zk_J3_equals_0 ?_
  simp (disch := omega) only [b_J3_equals_0, zif, zdr, zkb, mK_wi, mN_wi, mJ_wi, mI_wi, sI_wi, beq_self_eq_true, Bool.true_or, Bool.or_true, Bool.or_false, Bool.and_self, Bool.and_true, Bool.true_and, ↓reduceIte, ble_up0, i_cl, i_succ, zix_of, zfl_k, zup_k, zup_q, he]
  refine ev_bk ?_
  refine zat_in zP_J3_equals zk_J3_equals_7 ?_
  simp (disch := omega) only [b_J3_equals_7, zif, zdr, zkb, mK_wi, mN_wi, mJ_wi, mI_wi, sI_wi, beq_self_eq_true, Bool.true_or, Bool.or_true, Bool.or_false, Bool.and_self, Bool.and_true, Bool.true_and, ↓reduceIte, ble_up0, i_cl, i_succ, zix_of, zfl_k, zup_k, zup_q, s1, t1, s3, t3, z10, i10, cond_true]
  refine ev_tl zP_J3_equals zk_J3_equals_36 ?_
  refine zat_in zP_J3_equals zk_J3_equals_36 ?_
  simp (disch := omega) only [b_J3_equals_36, zif, zdr, zkb, mK_wi, mN_wi, mJ_wi, mI_wi, sI_wi, beq_self_eq_true, Bool.true_or, Bool.or_true, Bool.or_false, Bool.and_self, Bool.and_true, Bool.true_and, ↓reduceIte, ble_up0, i_cl, i_succ, zix_of, zfl_k, zup_k, zup_q, s1, t1, s2, t2]
  refine ev_ci ce ?_
  rcases hv with ⟨rfl, -⟩ | ⟨rfl, -⟩
  · simp only [i10, ↓reduceIte]
    refine ev_bk ?_
    refine zat_in zP_J3_equals zk_J3_equals_55 ?_; simp (disch := omega) only [b_J3_equals_55, zif, zdr, zkb, mK_wi, mN_wi, mJ_wi, mI_wi, sI_wi, beq_self_eq_true, Bool.true_or, Bool.or_true, Bool.or_false, Bool.and_self, Bool.and_true, Bool.true_and, ↓reduceIte]
    exact ev_r
  · simp only [↓reduceIte]
    refine ev_bk ?_
    refine zat_in zP_J3_equals zk_J3_equals_54 ?_
    simp only [e54]
    refine ev_tl zP_J3_equals zk_J3_equals_55 ?_
    refine zat_in zP_J3_equals zk_J3_equals_55 ?_; simp (disch := omega) only [b_J3_equals_55, zif, zdr, zkb, mK_wi, mN_wi, mJ_wi, mI_wi, sI_wi, beq_self_eq_true, Bool.true_or, Bool.or_true, Bool.or_false, Bool.and_self, Bool.and_true, Bool.true_and, ↓reduceIte]
    exact ev_r
/-! hash -/
theorem lp_J7_signedHashCode (ka : mK S a = 102) (na : mN S a = l) (hl : l < 65536) : ∀ c k : Nat, k + c = l → zAt E d 25 8 [some (zi (hsh (I a) k)), some (zr (some a)), some (zi (Int32.ofNat 0)), some (zi (Int32.ofNat l)), some (zi (Int32.ofNat l)), some (zi (Int32.ofNat k))] [] (zwi S I) (Sum.inl (some (zi (hsh (I a) l))), zwi S I) := by
  intro c
  induction c with
  | zero =>
    intro k hk
    obtain rfl : k = l := hk
    refine zat_in zP_J7_signedHashCode zk_J7_signedHashCode_8 ?_
    simp (disch := omega) only [b_J7_signedHashCode_8, zif, zdr, zkb, mK_wi, mN_wi, mJ_wi, mI_wi, sI_wi, beq_self_eq_true, Bool.true_or, Bool.or_true, Bool.or_false, Bool.and_self, Bool.and_true, Bool.true_and, ↓reduceIte, ble_up0, i_cl, i_succ, zix_of, zfl_k, zup_k, zup_q, i_le, Nat.le_refl]
    refine ev_bk ?_
    refine zat_in zP_J7_signedHashCode zk_J7_signedHashCode_35 ?_; simp (disch := omega) only [b_J7_signedHashCode_35, zif, zdr, zkb, mK_wi, mN_wi, mJ_wi, mI_wi, sI_wi, beq_self_eq_true, Bool.true_or, Bool.or_true, Bool.or_false, Bool.and_self, Bool.and_true, Bool.true_and, ↓reduceIte]
    exact ev_r
  | succ c ih =>
    intro k hk
    have h1 : (l ≤ k) = False := eq_false (by omega)
    refine zat_in zP_J7_signedHashCode zk_J7_signedHashCode_8 ?_
    simp (disch := omega) only [b_J7_signedHashCode_8, zif, zdr, zkb, mK_wi, mN_wi, mJ_wi, mI_wi, sI_wi, beq_self_eq_true, Bool.true_or, Bool.or_true, Bool.or_false, Bool.and_self, Bool.and_true, Bool.true_and, ↓reduceIte, ble_up0, i_cl, i_succ, zix_of, zfl_k, zup_k, zup_q, ka, na, i_le, h1]
    exact ev_bk (ih (k + 1) (by omega))
theorem sp_J7_signedHashCode (ka : mK S a = 102) (na : mN S a = l) (hl : l < 65536) : zCl E d 25 [zi 0, zr (some a), zi 0, zi (Int32.ofNat l)] (zwi S I) (Sum.inl (some (zi (hsh (I a) l))), zwi S I) := by
  have h0 := @b_J7_signedHashCode_0
  have e0 : (0 : Int32) + Int32.ofNat l = Int32.ofNat l := Int32.zero_add _
  refine zcl_in' zP_J7_signedHashCode ?_; rw [zn_4_6]
  refine zat_in zP_J7_signedHashCode zk_J7_signedHashCode_0 ?_
  simp only [h0, e0]
  refine ev_tl zP_J7_signedHashCode zk_J7_signedHashCode_8 ?_
  exact lp_J7_signedHashCode ka na hl l 0 (Nat.zero_add _)
theorem sp_J6_hashCode (hB : E.1 ≤ a) (ka : mK S a = 102) (na : mN S a = l) (hl : l < 65536) (hl1 : 1 ≤ l) : zCl E (d + 2) 22 [zr (some a)] (zwi S I) (Sum.inl (some (zi (hsh (I a) l))), zwi S I) := by
  have e0 : (l = 0) = False := eq_false (by omega)
  have k0 : Int32.toNatClampNeg 0 = 0 := by decide
  refine zcl_in' zP_J6_hashCode ?_; rw [zn_1_1]
  by_cases e : l = 1
  · have e1 := eq_true e
    have hz : zix 0 l = true := zix_of (k := 0) (by omega) (by omega)
    have eh : hsh (I a) l = I a 0 &&& 255 := by
      rw [e]
      show 31 * 0 + (I a 0 &&& 255) = I a 0 &&& 255
      rw [Int32.mul_zero, Int32.zero_add]
    refine zat_in zP_J6_hashCode zk_J6_hashCode_0 ?_
    simp (disch := omega) only [b_J6_hashCode_0, zif, zdr, zkb, mK_wi, mN_wi, mJ_wi, mI_wi, sI_wi, beq_self_eq_true, Bool.true_or, Bool.or_true, Bool.or_false, Bool.and_self, Bool.and_true, Bool.true_and, ↓reduceIte, ble_up0, i_cl, i_succ, zix_of, zfl_k, zup_k, zup_q, ka, na, i_nz, e0, i_n1, e1]
    refine ev_bk ?_
    refine zat_in zP_J6_hashCode zk_J6_hashCode_32 ?_
    simp (disch := omega) only [b_J6_hashCode_32, zif, zdr, zkb, mK_wi, mN_wi, mJ_wi, mI_wi, sI_wi, beq_self_eq_true, Bool.true_or, Bool.or_true, Bool.or_false, Bool.and_self, Bool.and_true, Bool.true_and, ↓reduceIte, ble_up0, i_cl, i_succ, zix_of, zfl_k, zup_k, zup_q, ka, na, hz, k0]
    refine ev_bk ?_
    refine zat_in zP_J6_hashCode zk_J6_hashCode_51 ?_; simp (disch := omega) only [b_J6_hashCode_51, zif, zdr, zkb, mK_wi, mN_wi, mJ_wi, mI_wi, sI_wi, beq_self_eq_true, Bool.true_or, Bool.or_true, Bool.or_false, Bool.and_self, Bool.and_true, Bool.true_and, ↓reduceIte]
    rw [eh]
    exact ev_r
  · have e1 := eq_false e
    have i44 : ((4 : Int32) = 4) = True := eq_true rfl
    refine zat_in zP_J6_hashCode zk_J6_hashCode_0 ?_
    simp (disch := omega) only [b_J6_hashCode_0, zif, zdr, zkb, mK_wi, mN_wi, mJ_wi, mI_wi, sI_wi, beq_self_eq_true, Bool.true_or, Bool.or_true, Bool.or_false, Bool.and_self, Bool.and_true, Bool.true_and, ↓reduceIte, ble_up0, i_cl, i_succ, zix_of, zfl_k, zup_k, zup_q, ka, na, i_nz, e0, i_n1, e1]
    refine ev_bk ?_
    refine zat_in zP_J6_hashCode zk_J6_hashCode_42 ?_
    simp (disch := omega) only [b_J6_hashCode_42, zif, zdr, zkb, mK_wi, mN_wi, mJ_wi, mI_wi, sI_wi, beq_self_eq_true, Bool.true_or, Bool.or_true, Bool.or_false, Bool.and_self, Bool.and_true, Bool.true_and, ↓reduceIte, ble_up0, i_cl, i_succ, zix_of, zfl_k, zup_k, zup_q, ka, na]
    have cv : zCl E (d + 1) 24 [zr (some a), zi 0, zi (Int32.ofNat l), zi 0, zi 4] (zwi S I) (Sum.inl (some (zi (hsh (I a) l))), zwi S I) := by
      refine zcl_in' zP_J7_vectorizedHashCode ?_; rw [zn_5_5]
      refine zat_in zP_J7_vectorizedHashCode zk_J7_vectorizedHashCode_0 ?_
      simp (disch := omega) only [b_J7_vectorizedHashCode_0, zif, zdr, zkb, mK_wi, mN_wi, mJ_wi, mI_wi, sI_wi, beq_self_eq_true, Bool.true_or, Bool.or_true, Bool.or_false, Bool.and_self, Bool.and_true, Bool.true_and, ↓reduceIte, ble_up0, i_cl, i_succ, zix_of, zfl_k, zup_k, zup_q]
      refine ev_bk ?_
      refine zat_in zP_J7_vectorizedHashCode zk_J7_vectorizedHashCode_44 ?_
      simp (disch := omega) only [b_J7_vectorizedHashCode_44, zif, zdr, zkb, mK_wi, mN_wi, mJ_wi, mI_wi, sI_wi, beq_self_eq_true, Bool.true_or, Bool.or_true, Bool.or_false, Bool.and_self, Bool.and_true, Bool.true_and, ↓reduceIte, ble_up0, i_cl, i_succ, zix_of, zfl_k, zup_k, zup_q, ka]
      refine ev_ci (sp_J7_signedHashCode ka na hl) ?_
      refine ev_bk ?_
      refine zat_in zP_J7_vectorizedHashCode zk_J7_vectorizedHashCode_157 ?_; simp (disch := omega) only [b_J7_vectorizedHashCode_157, zif, zdr, zkb, mK_wi, mN_wi, mJ_wi, mI_wi, sI_wi, beq_self_eq_true, Bool.true_or, Bool.or_true, Bool.or_false, Bool.and_self, Bool.and_true, Bool.true_and, ↓reduceIte]
      exact ev_r
    refine ev_ci cv ?_
    refine ev_tl zP_J6_hashCode zk_J6_hashCode_51 ?_
    refine zat_in zP_J6_hashCode zk_J6_hashCode_51 ?_; simp (disch := omega) only [b_J6_hashCode_51, zif, zdr, zkb, mK_wi, mN_wi, mJ_wi, mI_wi, sI_wi, beq_self_eq_true, Bool.true_or, Bool.or_true, Bool.or_false, Bool.and_self, Bool.and_true, Bool.true_and, ↓reduceIte]
    exact ev_r
theorem sp_J3_isLatin1 (ks : mK S s = 17) (e1 : I s 1 = 0) : zCl E d 11 [zr (some s)] (zwi S I) (Sum.inl (some (zi 1)), zwi S I) := by
  refine zcl_in' zP_J3_isLatin1 ?_; rw [zn_1_1]
  refine zat_in zP_J3_isLatin1 zk_J3_isLatin1_0 ?_
  simp (disch := omega) only [b_J3_isLatin1_0, zif, zdr, zkb, mK_wi, mN_wi, mJ_wi, mI_wi, sI_wi, beq_self_eq_true, Bool.true_or, Bool.or_true, Bool.or_false, Bool.and_self, Bool.and_true, Bool.true_and, ↓reduceIte, ble_up0, i_cl, i_succ, zix_of, zfl_k, zup_k, zup_q, ks, e1, z10, i10]
  refine ev_bk ?_
  refine zat_in zP_J3_isLatin1 zk_J3_isLatin1_18 ?_; simp (disch := omega) only [b_J3_isLatin1_18, zif, zdr, zkb, mK_wi, mN_wi, mJ_wi, mI_wi, sI_wi, beq_self_eq_true, Bool.true_or, Bool.or_true, Bool.or_false, Bool.and_self, Bool.and_true, Bool.true_and, ↓reduceIte]
  exact ev_r
/-- a word that was made here: its hash is kept or not -/
def xHs (I : Nat → Nat → Int32) (s : Nat) (f : Nat → Int32) (l : Nat) : Prop := (I s 2 = 0 ∨ I s 2 = hsh f l) ∧ (I s 3 = 0 ∨ hsh f l = 0)
theorem sp_J3_hashCode {sb : Nat} (hB : E.1 ≤ s) (hBb : E.1 ≤ sb) (hs : xTx S I s sb f l) (hb : s ≠ sb) (hh : xHs I s f l) (hl : l < 65536) (hl1 : 1 ≤ l) : ∃ I', zCl E (d + 3) 10 [zr (some s)] (zwi S I) (Sum.inl (some (zi (hsh f l))), zwi S I') ∧ xTx S I' s sb f l ∧ xHs I' s f l ∧ ∀ a k, a ≠ s → I' a k = I a k := by
  obtain ⟨s1, s2, s3, s4, s5, s6⟩ := hs
  obtain ⟨h1, h2⟩ := hh
  have eh : hsh (I sb) l = hsh f l := hsh_eq l s6
  have cl := sp_J3_isLatin1 (E := E) (d := d + 2) (S := S) (I := I) s1 s3
  have ch := sp_J6_hashCode (E := E) (d := d) (I := I) hBb s4 s5 hl hl1
  rw [eh] at ch
  by_cases c2 : I s 2 = 0
  · have c2' := c2
    by_cases c3 : I s 3 = 0
    · by_cases c4 : hsh f l = 0
      · refine ⟨zup I s 3 1, ?_, ⟨s1, s2, ?_, s4, s5, fun j hj => ?_⟩, ⟨?_, Or.inr c4⟩, fun a k h => zup_k (by omega)⟩
        · refine zcl_in' zP_J3_hashCode ?_; rw [zn_1_2]
          refine zat_in zP_J3_hashCode zk_J3_hashCode_0 ?_
          simp (disch := omega) only [b_J3_hashCode_0, zif, zdr, zkb, mK_wi, mN_wi, mJ_wi, mI_wi, sI_wi, beq_self_eq_true, Bool.true_or, Bool.or_true, Bool.or_false, Bool.and_self, Bool.and_true, Bool.true_and, ↓reduceIte, ble_up0, i_cl, i_succ, zix_of, zfl_k, zup_k, zup_q, s1, c2, c3]
          refine ev_ci cl ?_
          simp (disch := omega) only [zif, zdr, zkb, mK_wi, mN_wi, mJ_wi, mI_wi, sI_wi, beq_self_eq_true, Bool.true_or, Bool.or_true, Bool.or_false, Bool.and_self, Bool.and_true, Bool.true_and, ↓reduceIte, ble_up0, i_cl, i_succ, zix_of, zfl_k, zup_k, zup_q, i10, s1, s2]
          refine ev_ci ch ?_
          refine ev_bk ?_
          refine zat_in zP_J3_hashCode zk_J3_hashCode_40 ?_
          simp (disch := omega) only [b_J3_hashCode_40, zif, zdr, zkb, mK_wi, mN_wi, mJ_wi, mI_wi, sI_wi, beq_self_eq_true, Bool.true_or, Bool.or_true, Bool.or_false, Bool.and_self, Bool.and_true, Bool.true_and, ↓reduceIte, ble_up0, i_cl, i_succ, zix_of, zfl_k, zup_k, zup_q, s1, c4]
          refine ev_bk ?_
          refine zat_in zP_J3_hashCode zk_J3_hashCode_58 ?_; simp (disch := omega) only [b_J3_hashCode_58, zif, zdr, zkb, mK_wi, mN_wi, mJ_wi, mI_wi, sI_wi, beq_self_eq_true, Bool.true_or, Bool.or_true, Bool.or_false, Bool.and_self, Bool.and_true, Bool.true_and, ↓reduceIte]
          exact ev_r
        · rw [zup_k (by omega)]
          exact s3
        · rw [zup_k (by omega)]
          exact s6 j hj
        · rw [zup_k (by omega)]
          exact h1
      · have c4' := eq_false c4
        refine ⟨zup I s 2 (hsh f l), ?_, ⟨s1, s2, ?_, s4, s5, fun j hj => ?_⟩, ⟨Or.inr (zup_q _ _ _ _), ?_⟩, fun a k h => zup_k (by omega)⟩
        · have e53 := @b_J3_hashCode_53
          refine zcl_in' zP_J3_hashCode ?_; rw [zn_1_2]
          refine zat_in zP_J3_hashCode zk_J3_hashCode_0 ?_
          simp (disch := omega) only [b_J3_hashCode_0, zif, zdr, zkb, mK_wi, mN_wi, mJ_wi, mI_wi, sI_wi, beq_self_eq_true, Bool.true_or, Bool.or_true, Bool.or_false, Bool.and_self, Bool.and_true, Bool.true_and, ↓reduceIte, ble_up0, i_cl, i_succ, zix_of, zfl_k, zup_k, zup_q, s1, c2, c3]
          refine ev_ci cl ?_
          simp (disch := omega) only [zif, zdr, zkb, mK_wi, mN_wi, mJ_wi, mI_wi, sI_wi, beq_self_eq_true, Bool.true_or, Bool.or_true, Bool.or_false, Bool.and_self, Bool.and_true, Bool.true_and, ↓reduceIte, ble_up0, i_cl, i_succ, zix_of, zfl_k, zup_k, zup_q, i10, s1, s2]
          refine ev_ci ch ?_
          refine ev_bk ?_
          refine zat_in zP_J3_hashCode zk_J3_hashCode_40 ?_
          simp (disch := omega) only [b_J3_hashCode_40, zif, zdr, zkb, mK_wi, mN_wi, mJ_wi, mI_wi, sI_wi, beq_self_eq_true, Bool.true_or, Bool.or_true, Bool.or_false, Bool.and_self, Bool.and_true, Bool.true_and, ↓reduceIte, ble_up0, i_cl, i_succ, zix_of, zfl_k, zup_k, zup_q, s1, c4']
          refine ev_bk ?_
          refine zat_in zP_J3_hashCode zk_J3_hashCode_53 ?_
          simp (disch := omega) only [e53, zif, zdr, zkb, mK_wi, mN_wi, mJ_wi, mI_wi, sI_wi, beq_self_eq_true, Bool.true_or, Bool.or_true, Bool.or_false, Bool.and_self, Bool.and_true, Bool.true_and, ↓reduceIte, ble_up0, i_cl, i_succ, zix_of, zfl_k, zup_k, zup_q, s1]
          refine ev_tl zP_J3_hashCode zk_J3_hashCode_58 ?_
          refine zat_in zP_J3_hashCode zk_J3_hashCode_58 ?_; simp (disch := omega) only [b_J3_hashCode_58, zif, zdr, zkb, mK_wi, mN_wi, mJ_wi, mI_wi, sI_wi, beq_self_eq_true, Bool.true_or, Bool.or_true, Bool.or_false, Bool.and_self, Bool.and_true, Bool.true_and, ↓reduceIte]
          exact ev_r
        · rw [zup_k (by omega)]
          exact s3
        · rw [zup_k (by omega)]
          exact s6 j hj
        · rw [zup_k (by omega)]
          exact h2
    · have c3' := eq_false c3
      have c4 : hsh f l = 0 := by
        rcases h2 with q | q
        · exact absurd q c3
        · exact q
      refine ⟨I, ?_, ⟨s1, s2, s3, s4, s5, s6⟩, ⟨h1, h2⟩, fun _ _ _ => rfl⟩
      refine zcl_in' zP_J3_hashCode ?_; rw [zn_1_2]
      refine zat_in zP_J3_hashCode zk_J3_hashCode_0 ?_
      simp (disch := omega) only [b_J3_hashCode_0, zif, zdr, zkb, mK_wi, mN_wi, mJ_wi, mI_wi, sI_wi, beq_self_eq_true, Bool.true_or, Bool.or_true, Bool.or_false, Bool.and_self, Bool.and_true, Bool.true_and, ↓reduceIte, ble_up0, i_cl, i_succ, zix_of, zfl_k, zup_k, zup_q, s1, c2, c3', c4]
      refine ev_bk ?_
      refine zat_in zP_J3_hashCode zk_J3_hashCode_58 ?_; simp (disch := omega) only [b_J3_hashCode_58, zif, zdr, zkb, mK_wi, mN_wi, mJ_wi, mI_wi, sI_wi, beq_self_eq_true, Bool.true_or, Bool.or_true, Bool.or_false, Bool.and_self, Bool.and_true, Bool.true_and, ↓reduceIte]
      exact ev_r
  · have c2' := eq_false c2
    have c4 : I s 2 = hsh f l := by
      rcases h1 with q | q
      · exact absurd q c2
      · exact q
    have c5 : (hsh f l = 0) = False := by rw [← c4]; exact c2'
    refine ⟨I, ?_, ⟨s1, s2, s3, s4, s5, s6⟩, ⟨h1, h2⟩, fun _ _ _ => rfl⟩
    refine zcl_in' zP_J3_hashCode ?_; rw [zn_1_2]
    refine zat_in zP_J3_hashCode zk_J3_hashCode_0 ?_
    simp (disch := omega) only [b_J3_hashCode_0, zif, zdr, zkb, mK_wi, mN_wi, mJ_wi, mI_wi, sI_wi, beq_self_eq_true, Bool.true_or, Bool.or_true, Bool.or_false, Bool.and_self, Bool.and_true, Bool.true_and, ↓reduceIte, ble_up0, i_cl, i_succ, zix_of, zfl_k, zup_k, zup_q, s1, c4, c5]
    refine ev_bk ?_
    refine zat_in zP_J3_hashCode zk_J3_hashCode_58 ?_; simp (disch := omega) only [b_J3_hashCode_58, zif, zdr, zkb, mK_wi, mN_wi, mJ_wi, mI_wi, sI_wi, beq_self_eq_true, Bool.true_or, Bool.or_true, Bool.or_false, Bool.and_self, Bool.and_true, Bool.true_and, ↓reduceIte]
    exact ev_r
/-! a new text of letters -/
theorem lp_J5_compress_2 (hB : E.1 ≤ b) (ka : mK S a = 103) (na : mN S a = 8) (kb : mK S b = 102) (nb : mN S b = l) (hab : a ≠ b) (hl : l ≤ 8) (hf : ltr f l) : ∀ c k : Nat, k + c = l → ∀ (I : Nat → Nat → Int32) (u : Option zV), (∀ j, j < l → I a j = f j) → (∀ j, j < k → I b j = f j) → ∃ I', zAt E d 19 3 [some (zr (some a)), some (zi (Int32.ofNat k)), some (zr (some b)), some (zi (Int32.ofNat k)), some (zi (Int32.ofNat l)), some (zi (Int32.ofNat k)), u] [] (zwi S I) (Sum.inl (some (zi (Int32.ofNat l))), zwi S I') ∧ (∀ j, j < l → I' b j = f j) ∧ ∀ x k, x ≠ b → I' x k = I x k := by
  intro c
  induction c with
  | zero =>
    intro k hk I u h1 h2
    obtain rfl : k = l := hk
    refine ⟨I, ?_, h2, fun _ _ _ => rfl⟩
    refine zat_in zP_J5_compress_2 zk_J5_compress_2_3 ?_
    simp (disch := omega) only [b_J5_compress_2_3, zif, zdr, zkb, mK_wi, mN_wi, mJ_wi, mI_wi, sI_wi, beq_self_eq_true, Bool.true_or, Bool.or_true, Bool.or_false, Bool.and_self, Bool.and_true, Bool.true_and, ↓reduceIte, ble_up0, i_cl, i_succ, zix_of, zfl_k, zup_k, zup_q, i_le, Nat.le_refl]
    refine ev_bk ?_
    refine zat_in zP_J5_compress_2 zk_J5_compress_2_44 ?_; simp (disch := omega) only [b_J5_compress_2_44, zif, zdr, zkb, mK_wi, mN_wi, mJ_wi, mI_wi, sI_wi, beq_self_eq_true, Bool.true_or, Bool.or_true, Bool.or_false, Bool.and_self, Bool.and_true, Bool.true_and, ↓reduceIte]
    exact ev_r
  | succ c ih =>
    intro k hk I u h1 h2
    have l1 : (l ≤ k) = False := eq_false (by omega)
    obtain ⟨f1, f2, f3⟩ := hf k (by omega)
    have e1 : I a k = f k := h1 k (by omega)
    have e2 : (f k ≤ 255) = True := by
      rw [f1, show (255 : Int32) = Int32.ofNat 255 from rfl, i_le (by omega) (by omega)]
      exact eq_true (by omega)
    have e3 : Int8.toInt32 (Int32.toInt8 (f k)) = f k := by
      have := b8 (nn (f k)) (by omega)
      rw [← f1] at this
      exact this
    obtain ⟨I1, a1, p1, q1⟩ := ih (k + 1) (by omega) (zup I b k (f k)) (some (zi (f k))) (fun j hj => by rw [zup_k (by omega)]; exact h1 j hj) (fun j hj => by
      by_cases q : j = k
      · rw [q, zup_q]
      · rw [zup_k (by omega)]
        exact h2 j (by omega))
    refine ⟨I1, ?_, p1, fun x i hx => by rw [q1 x i hx, zup_k (by omega)]⟩
    have e26 := @b_J5_compress_2_26
    refine zat_in zP_J5_compress_2 zk_J5_compress_2_3 ?_
    simp (disch := omega) only [b_J5_compress_2_3, zif, zdr, zkb, mK_wi, mN_wi, mJ_wi, mI_wi, sI_wi, beq_self_eq_true, Bool.true_or, Bool.or_true, Bool.or_false, Bool.and_self, Bool.and_true, Bool.true_and, ↓reduceIte, ble_up0, i_cl, i_succ, zix_of, zfl_k, zup_k, zup_q, i_le, l1, ka, na, e1, e2]
    refine ev_bk ?_
    refine zat_in zP_J5_compress_2 zk_J5_compress_2_26 ?_
    simp (disch := omega) only [e26, zif, zdr, zkb, mK_wi, mN_wi, mJ_wi, mI_wi, sI_wi, beq_self_eq_true, Bool.true_or, Bool.or_true, Bool.or_false, Bool.and_self, Bool.and_true, Bool.true_and, ↓reduceIte, ble_up0, i_cl, i_succ, zix_of, zfl_k, zup_k, zup_q, kb, nb, e3]
    refine ev_tl zP_J5_compress_2 zk_J5_compress_2_32 ?_
    refine zat_in zP_J5_compress_2 zk_J5_compress_2_32 ?_; simp (disch := omega) only [b_J5_compress_2_32, zif, zdr, zkb, mK_wi, mN_wi, mJ_wi, mI_wi, sI_wi, beq_self_eq_true, Bool.true_or, Bool.or_true, Bool.or_false, Bool.and_self, Bool.and_true, Bool.true_and, ↓reduceIte, ble_up0, i_cl, i_succ, zix_of, zfl_k, zup_k, zup_q]
    exact ev_bk a1
theorem sp_J3_rangeCheck {M : zM} (na : mN M a = 8) (ka : mK M a = 103) (hl : l ≤ 8) : zCl E (d + 2) 6 [zr (some a), zi 0, zi (Int32.ofNat l)] M (Sum.inl (some (zr none)), M) := by
  have o8 : ∀ l, l ≤ 8 → ((((8 : Int32) ||| 0) ||| Int32.ofNat l) < 0) = False ∧ (Int32.ofNat l ≤ (8 : Int32) - 0) = True := by
    intro l hl
    have : ∀ l, l < 9 → ¬ ((((8 : Int32) ||| 0) ||| Int32.ofNat l) < 0) ∧ (Int32.ofNat l ≤ (8 : Int32) - 0) := by decide +kernel
    exact ⟨eq_false (this l (by omega)).1, eq_true (this l (by omega)).2⟩
  obtain ⟨o1, o2⟩ := o8 l hl
  have e8 : Int32.ofNat 8 = 8 := rfl
  have c1 : zCl E d 16 [zi 0, zi (Int32.ofNat l), zi 8, zr (E.2.2 0)] M (Sum.inl (some (zi 0)), M) := by
    refine zcl_in' zP_J4_checkFromIndexSize ?_; rw [zn_4_4]
    refine zat_in zP_J4_checkFromIndexSize zk_J4_checkFromIndexSize_0 ?_
    simp only [b_J4_checkFromIndexSize_0, o1, o2, ↓reduceIte]
    refine ev_bk ?_
    refine zat_in zP_J4_checkFromIndexSize zk_J4_checkFromIndexSize_23 ?_; simp (disch := omega) only [b_J4_checkFromIndexSize_23, zif, zdr, zkb, mK_wi, mN_wi, mJ_wi, mI_wi, sI_wi, beq_self_eq_true, Bool.true_or, Bool.or_true, Bool.or_false, Bool.and_self, Bool.and_true, Bool.true_and, ↓reduceIte]
    exact ev_r
  have c2 : zCl E (d + 1) 7 [zi 0, zi (Int32.ofNat l), zi 8] M (Sum.inl (some (zi 0)), M) := by
    refine zcl_in' zP_J3_checkBoundsOffCount ?_; rw [zn_3_3]
    refine zat_in zP_J3_checkBoundsOffCount zk_J3_checkBoundsOffCount_0 ?_
    simp only [b_J3_checkBoundsOffCount_0]
    refine ev_ci c1 ?_
    exact ev_r
  refine zcl_in' zP_J3_rangeCheck ?_; rw [zn_3_3]
  refine zat_in zP_J3_rangeCheck zk_J3_rangeCheck_0 ?_
  simp (disch := omega) only [b_J3_rangeCheck_0, zif, zdr, zkb, mK_wi, mN_wi, mJ_wi, mI_wi, sI_wi, beq_self_eq_true, Bool.true_or, Bool.or_true, Bool.or_false, Bool.and_self, Bool.and_true, Bool.true_and, ↓reduceIte, ble_up0, i_cl, i_succ, zix_of, zfl_k, zup_k, zup_q, ka, na, e8]
  refine ev_ci c2 ?_
  exact ev_r
/-- the text of l letters of the array a, in the cell s that is new -/
theorem sp_J3_init (hB : E.1 ≤ s) (ks : mK S s = 17) (hs : s < mS S) (ha : a < mS S) (has : a ≠ s) (ka : mK S a = 103) (na : mN S a = 8) (hl : l ≤ 8) (hl1 : 1 ≤ l) (hf : ltr f l) (h1 : ∀ j, j < l → I a j = f j) : ∃ I', zCl E (d + 3) 5 [zr (some s), zr (some a), zi 0, zi (Int32.ofNat l)] (zwi S I) (Sum.inl none, zwi (sJ (zal S 102 l l) s 0 (some (mS S))) I') ∧ (∀ j, j < l → I' (mS S) j = f j) ∧ I' s 1 = 0 ∧ ∀ x k, x ≠ mS S → ¬ (x = s ∧ k = 1) → I' x k = I x k := by
  have hE : E.1 ≤ mS S := by omega
  have kb : mK (zal S 102 l l) (mS S) = 102 := mK_al_q rfl
  have nb : mN (zal S 102 l l) (mS S) = l := mN_al_q rfl
  have ka' : mK (zal S 102 l l) a = 103 := (mK_al_k (by omega)).trans ka
  have na' : mN (zal S 102 l l) a = 8 := (mN_al_k (by omega)).trans na
  have ks' : mK (zal S 102 l l) s = 17 := (mK_al_k (by omega)).trans ks
  obtain ⟨I1, a1, p1, q1⟩ := lp_J5_compress_2 (E := E) (d := d) (f := f) hE ka' na' kb nb (by omega) hl hf l 0 (Nat.zero_add _) (zwn I (mS S)) none (fun j hj => by rw [zwn_k (by omega)]; exact h1 j hj) (fun j hj => absurd hj (by omega))
  have e0 : (l = 0) = False := eq_false (by omega)
  have hz : zsz (Int32.ofNat l) = true := sz_of (by omega)
  have c19 : zCl E d 19 [zr (some a), zi 0, zr (some (mS S)), zi 0, zi (Int32.ofNat l)] (zwi (zal S 102 l l) (zwn I (mS S))) (Sum.inl (some (zi (Int32.ofNat l))), zwi (zal S 102 l l) I1) := by
    have h0 := @b_J5_compress_2_0
    refine zcl_in' zP_J5_compress_2 ?_; rw [zn_5_7]
    refine zat_in zP_J5_compress_2 zk_J5_compress_2_0 ?_
    simp only [h0]
    refine ev_tl zP_J5_compress_2 zk_J5_compress_2_3 ?_
    exact a1
  have c18 : zCl E (d + 1) 18 [zr (some a), zi 0, zi (Int32.ofNat l)] (zwi S I) (Sum.inl (some (zr (some (mS S)))), zwi (zal S 102 l l) I1) := by
    refine zcl_in' zP_J5_compress ?_; rw [zn_3_6]
    refine zat_in zP_J5_compress zk_J5_compress_0 ?_
    simp (disch := omega) only [b_J5_compress_0, zif, zdr, zkb, mK_wi, mN_wi, mJ_wi, mI_wi, sI_wi, beq_self_eq_true, Bool.true_or, Bool.or_true, Bool.or_false, Bool.and_self, Bool.and_true, Bool.true_and, ↓reduceIte, ble_up0, i_cl, i_succ, zix_of, zfl_k, zup_k, zup_q, hz, al_wi, mS_wi]
    refine ev_ci c19 ?_
    simp only [↓reduceIte]
    refine ev_bk ?_
    refine zat_in zP_J5_compress zk_J5_compress_57 ?_; simp (disch := omega) only [b_J5_compress_57, zif, zdr, zkb, mK_wi, mN_wi, mJ_wi, mI_wi, sI_wi, beq_self_eq_true, Bool.true_or, Bool.or_true, Bool.or_false, Bool.and_self, Bool.and_true, Bool.true_and, ↓reduceIte]
    exact ev_r
  have e20 : Int8.toInt32 (Int32.toInt8 (UInt32.toInt32 (Int32.toUInt32 (Int32.ofNat l - Int32.ofNat l) >>> (Int32.toUInt32 31 &&& Int32.toUInt32 31)))) = 0 := by
    rw [Int32.sub_self]
    decide
  have z00 : ((0 : Int32) == 0) = true := by decide
  have c20 : zCl E (d + 1) 20 [zr (some (mS S)), zi (Int32.ofNat l)] (zwi (zal S 102 l l) I1) (Sum.inl (some (zi 0)), zwi (zal S 102 l l) I1) := by
    refine zcl_in' zP_J5_coderFromArrayLen ?_; rw [zn_2_2]
    refine zat_in zP_J5_coderFromArrayLen zk_J5_coderFromArrayLen_0 ?_
    simp (disch := omega) only [b_J5_coderFromArrayLen_0, zif, zdr, zkb, mK_wi, mN_wi, mJ_wi, mI_wi, sI_wi, beq_self_eq_true, Bool.true_or, Bool.or_true, Bool.or_false, Bool.and_self, Bool.and_true, Bool.true_and, ↓reduceIte, ble_up0, i_cl, i_succ, zix_of, zfl_k, zup_k, zup_q, kb, nb, e20, z00]
    exact ev_r
  have e8 : Int8.toInt32 (Int32.toInt8 0) = 0 := by decide
  refine ⟨zup I1 s 1 0, ?_, fun j hj => by rw [zup_k (by omega)]; exact p1 j hj, zup_q _ _ _ _, fun x k h2 h3 => by rw [zup_k h3, q1 x k h2, zwn_k h2]⟩
  refine zcl_in' zP_J3_init ?_; rw [zn_4_4]
  refine zat_in zP_J3_init zk_J3_init_0 ?_
  simp (disch := omega) only [b_J3_init_0, zif, zdr, zkb, mK_wi, mN_wi, mJ_wi, mI_wi, sI_wi, beq_self_eq_true, Bool.true_or, Bool.or_true, Bool.or_false, Bool.and_self, Bool.and_true, Bool.true_and, ↓reduceIte, ble_up0, i_cl, i_succ, zix_of, zfl_k, zup_k, zup_q, ka]
  refine ev_cr (sp_J3_rangeCheck (M := zwi S I) na ka hl) ?_
  have c8 : zCl E (d + 2) 8 [zr (some s), zr (some a), zi 0, zi (Int32.ofNat l), zr none] (zwi S I) (Sum.inl none, zwi (sJ (zal S 102 l l) s 0 (some (mS S))) (zup I1 s 1 0)) := by
    refine zcl_in' zP_J3_init_2 ?_; rw [zn_5_6]
    refine zat_in zP_J3_init_2 zk_J3_init_2_0 ?_
    simp (disch := omega) only [b_J3_init_2_0, zif, zdr, zkb, mK_wi, mN_wi, mJ_wi, mI_wi, sI_wi, beq_self_eq_true, Bool.true_or, Bool.or_true, Bool.or_false, Bool.and_self, Bool.and_true, Bool.true_and, ↓reduceIte, ble_up0, i_cl, i_succ, zix_of, zfl_k, zup_k, zup_q, ks, i_nz, e0]
    refine ev_bk ?_
    refine zat_in zP_J3_init_2 zk_J3_init_2_27 ?_
    simp (disch := omega) only [b_J3_init_2_27, zif, zdr, zkb, mK_wi, mN_wi, mJ_wi, mI_wi, sI_wi, beq_self_eq_true, Bool.true_or, Bool.or_true, Bool.or_false, Bool.and_self, Bool.and_true, Bool.true_and, ↓reduceIte, ble_up0, i_cl, i_succ, zix_of, zfl_k, zup_k, zup_q, z10, i10]
    refine ev_cr c18 ?_
    try simp (disch := omega) only [zif, zdr, zkb, mK_wi, mN_wi, mJ_wi, mI_wi, sI_wi, beq_self_eq_true, Bool.true_or, Bool.or_true, Bool.or_false, Bool.and_self, Bool.and_true, Bool.true_and, ↓reduceIte, ble_up0, i_cl, i_succ, zix_of, zfl_k, zup_k, zup_q]
    refine ev_ci c20 ?_
    simp (disch := omega) only [zif, zdr, zkb, mK_wi, mN_wi, mJ_wi, mI_wi, sI_wi, beq_self_eq_true, Bool.true_or, Bool.or_true, Bool.or_false, Bool.and_self, Bool.and_true, Bool.true_and, ↓reduceIte, ble_up0, i_cl, i_succ, zix_of, zfl_k, zup_k, zup_q, ks', e8, sJ_wi]
    exact ev_r
  try simp (disch := omega) only [zif, zdr, zkb, mK_wi, mN_wi, mJ_wi, mI_wi, sI_wi, beq_self_eq_true, Bool.true_or, Bool.or_true, Bool.or_false, Bool.and_self, Bool.and_true, Bool.true_and, ↓reduceIte, ble_up0, i_cl, i_succ, zix_of, zfl_k, zup_k, zup_q, ks]
  refine ev_cv c8 ?_
  exact ev_r
end
