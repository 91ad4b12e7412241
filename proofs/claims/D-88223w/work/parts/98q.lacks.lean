/-! ===== what a team lacks by a law ===== -/
set_option maxRecDepth 100000
def tl (T : zT) (a : Int32) (l p : Nat) : Int32 := if p = l then 0 else jmax 0 (a - (T 5 p - T 4 p))
def tmi (T : zT) (a : Int32) (l : Nat) : Nat → Nat → Int32 → Int32
  | 0, _, acc => acc
  | c + 1, p, acc => tmi T a l c (p + 1) (jmin acc (tl T a l p))
def mxx : Int32 := 2147483647
def xlk (T : zT) (a : Int32) (l f t : Nat) : Int32 := if tmi T a l (min t l + 1 - f) f mxx = mxx then 0 else tmi T a l (min t l + 1 - f) f mxx
def mlk (T : zT) (a : Int32) (l f t : Nat) : Int32 := if t < f ∨ l < t then 0 else tmi T a l (t - f) (f + 1) (tl T a l f)
def ib (x : Int32) : Prop := -1 ≤ x.toInt ∧ x.toInt ≤ 2000
def IR (T : zT) : Prop := ∀ j, j < 13 → ib (T 4 j) ∧ ib (T 5 j)
def zb (x : Int32) : Prop := 0 ≤ x.toInt ∧ x.toInt ≤ 20000
theorem tl_b {T : zT} {a : Int32} {l p : Nat} (hT : IR T) (ha : sm a 9999) (hp : p < 13) : zb (tl T a l p) := by
  unfold tl zb
  split
  · exact ⟨by decide, by decide⟩
  · obtain ⟨⟨h1, h2⟩, h3, h4⟩ := hT p hp
    have ha1 := (i_smI (x := a) (n := 9999) (by omega)).1 ha
    have e1 : (T 5 p - T 4 p).toInt = (T 5 p).toInt - (T 4 p).toInt := by
      rw [Int32.toInt_sub, Int.bmod_eq_of_le (by omega) (by omega)]
    have e2 : (a - (T 5 p - T 4 p)).toInt = a.toInt - ((T 5 p).toInt - (T 4 p).toInt) := by
      rw [Int32.toInt_sub, e1, Int.bmod_eq_of_le (by omega) (by omega)]
    unfold jmax
    have h0 : (0 : Int32).toInt = 0 := rfl
    split
    · next h =>
      rw [Int32.lt_iff_toInt_lt, h0, e2] at h
      rw [e2]
      omega
    · exact ⟨by decide, by decide⟩
theorem jmin_b {a b : Int32} (h : zb b) (ha : 0 ≤ a.toInt) : zb (jmin a b) := by
  unfold jmin
  split
  · exact h
  · next h2 =>
    rw [Int32.lt_iff_toInt_lt] at h2
    unfold zb at *
    omega
theorem tmi_b {T : zT} {a : Int32} {l : Nat} (hT : IR T) (ha : sm a 9999) : ∀ c p acc, p + c ≤ 13 → zb acc → zb (tmi T a l c p acc)
  | 0, _, _, _, h => h
  | c + 1, p, acc, hp, h => tmi_b hT ha c (p + 1) _ (by omega) (jmin_b (tl_b hT ha (by omega)) h.1)
theorem tmi_last {T : zT} {a : Int32} {l : Nat} : ∀ c p acc, tmi T a l (c + 1) p acc = jmin (tmi T a l c p acc) (tl T a l (p + c))
  | 0, p, acc => rfl
  | c + 1, p, acc => by
    show tmi T a l (c + 1) (p + 1) (jmin acc (tl T a l p)) = jmin (tmi T a l (c + 1) p acc) (tl T a l (p + (c + 1)))
    rw [tmi_last c (p + 1), show p + 1 + c = p + (c + 1) by omega]
    rfl
theorem jmin_mx {x : Int32} (h : zb x) : jmin mxx x = x := by
  unfold jmin
  rw [if_pos]
  rw [Int32.lt_iff_toInt_lt, show mxx.toInt = 2147483647 from rfl]
  have := h.2
  omega
theorem zb_mx {x : Int32} (h : zb x) : x ≠ mxx := fun q => by
  have := h.2
  rw [q, show mxx.toInt = 2147483647 from rfl] at this
  omega
theorem xlk_mlk {T : zT} {a : Int32} {l f t : Nat} (hT : IR T) (ha : sm a 9999) (hl : l ≤ 12) : xlk T a l f t = mlk T a l f t := by
  unfold xlk mlk
  by_cases h : t < f ∨ l < t
  · rw [if_pos h]
    by_cases h2 : min t l + 1 - f = 0
    · rw [h2]
      exact if_pos rfl
    · have hlt : l < t := by omega
      have hml : min t l = l := Nat.min_eq_right (by omega)
      rw [hml] at h2 ⊢
      obtain ⟨c, hc⟩ : ∃ c, l + 1 - f = c + 1 := ⟨l + 1 - f - 1, by omega⟩
      have e : tmi T a l (l + 1 - f) f mxx = 0 := by
        rw [hc, tmi_last, show f + c = l by omega, show tl T a l l = 0 from if_pos rfl]
        have hz : 0 ≤ (tmi T a l c f mxx).toInt := by
          cases c with
          | zero => show 0 ≤ mxx.toInt; decide
          | succ c => 
            show 0 ≤ (tmi T a l c (f + 1) (jmin mxx (tl T a l f))).toInt
            exact (tmi_b hT ha c (f + 1) _ (by omega) (by rw [jmin_mx (tl_b hT ha (by omega))]; exact tl_b hT ha (by omega))).1
        unfold jmin
        have h0 : (0 : Int32).toInt = 0 := rfl
        split
        · rfl
        · next h3 =>
          rw [Int32.lt_iff_toInt_lt, h0] at h3
          rw [← Int32.toInt_inj, h0]
          omega
      rw [e]
      exact if_neg (by decide)
  · rw [if_neg h]
    have hmt : min t l = t := Nat.min_eq_left (by omega)
    rw [hmt, show t + 1 - f = (t - f) + 1 by omega]
    have e : tmi T a l (t - f + 1) f mxx = tmi T a l (t - f) (f + 1) (tl T a l f) := by
      show tmi T a l (t - f) (f + 1) (jmin mxx (tl T a l f)) = _
      rw [jmin_mx (tl_b hT ha (by omega))]
    rw [e]
    exact if_neg (zb_mx (tmi_b hT ha _ _ _ (by omega) (tl_b hT ha (by omega))))
section
variable {E : zE} {d t w nd ng a l f u : Nat} {S : zM} {I : Nat → Nat → Int32} {T V : zT} {x : Int32}
theorem lp_X13_lacks (hk : mK S a = 13 ∨ mK S a = 14) (hS : xTS S t) (w0 : mK S w = 4) (hP : xP I t nd ng T) (e1 : I a 1 = x) (e3 : I a 3 = Int32.ofNat u) (el : I w 4 = Int32.ofNat l) (hl : l ≤ 12) (hu : u < 100000) : ∀ c p : Nat, (p + c = min u l + 1 ∨ c = 0 ∧ min u l < p) → p < 100000 → ∀ (acc : Int32), zAt E (d + 1) 205 9 [some (zr (some a)), some (zr (some t)), some (zr (some w)), some (zi acc), some (zi (Int32.ofNat p))] [] (zwi S I) (Sum.inl (some (zi (if tmi T x l c p acc = mxx then 0 else tmi T x l c p acc))), zwi S I) := by
  obtain ⟨⟨q1, q2, q3, q4⟩, ⟨qi1, qi2, qi3⟩, ⟨qa1, qa2, qa3⟩, ⟨qs1, qs2, qs3⟩, ⟨qf1, qf2, qf3⟩, ⟨qt1, qt2, qt3⟩, q5⟩ := hS
  intro c
  induction c with
  | zero =>
    intro p hp hp2 acc
    have e75 : zAt E (d + 1) 205 75 [some (zr (some a)), some (zr (some t)), some (zr (some w)), some (zi acc), some (zi (Int32.ofNat p))] [] (zwi S I) (Sum.inl (some (zi (if acc = mxx then 0 else acc))), zwi S I) := by
      have em : mxx = 2147483647 := rfl
      rw [em]
      refine zat_in zP_X13_lacks zk_X13_lacks_75 ?_
      simp only [b_X13_lacks_75]
      refine ev_th _ (fun h => ?_) (fun h => ?_)
      · rw [if_pos h]
        refine ev_bk ?_
        refine zat_in zP_X13_lacks zk_X13_lacks_86 ?_; simp (disch := omega) only [b_X13_lacks_86, zif, zdr, zkb, mK_wi, mN_wi, mJ_wi, mI_wi, sI_wi, beq_self_eq_true, Bool.true_or, Bool.or_true, Bool.or_false, Bool.and_self, Bool.and_true, Bool.true_and, ↓reduceIte, ble_up0, i_cl, i_succ, zix_of, zfl_k, zup_k, zup_q]
        exact ev_r
      · rw [if_neg h]
        refine ev_bk ?_
        refine zat_in zP_X13_lacks zk_X13_lacks_85 ?_
        simp only [b_X13_lacks_85]
        refine ev_tl zP_X13_lacks zk_X13_lacks_86 ?_
        refine zat_in zP_X13_lacks zk_X13_lacks_86 ?_; simp (disch := omega) only [b_X13_lacks_86, zif, zdr, zkb, mK_wi, mN_wi, mJ_wi, mI_wi, sI_wi, beq_self_eq_true, Bool.true_or, Bool.or_true, Bool.or_false, Bool.and_self, Bool.and_true, Bool.true_and, ↓reduceIte, ble_up0, i_cl, i_succ, zix_of, zfl_k, zup_k, zup_q]
        exact ev_r
    by_cases h1 : u < p
    · have c1 : (Int32.ofNat u < Int32.ofNat p) = True := by rw [i_lt (by omega) (by omega)]; exact eq_true h1
      rcases hk with hk | hk
      · refine zat_in zP_X13_lacks zk_X13_lacks_9 ?_
        simp (disch := omega) only [b_X13_lacks_9, zif, zdr, zkb, mK_wi, mN_wi, mJ_wi, mI_wi, sI_wi, beq_self_eq_true, Bool.true_or, Bool.or_true, Bool.or_false, Bool.and_self, Bool.and_true, Bool.true_and, ↓reduceIte, ble_up0, i_cl, i_succ, zix_of, zfl_k, zup_k, zup_q, hk, e3, c1]
        exact ev_bk e75
      · refine zat_in zP_X13_lacks zk_X13_lacks_9 ?_
        simp (disch := omega) only [b_X13_lacks_9, zif, zdr, zkb, mK_wi, mN_wi, mJ_wi, mI_wi, sI_wi, beq_self_eq_true, Bool.true_or, Bool.or_true, Bool.or_false, Bool.and_self, Bool.and_true, Bool.true_and, ↓reduceIte, ble_up0, i_cl, i_succ, zix_of, zfl_k, zup_k, zup_q, hk, e3, c1]
        exact ev_bk e75
    · have c1 : (Int32.ofNat u < Int32.ofNat p) = False := by rw [i_lt (by omega) (by omega)]; exact eq_false h1
      have c2 : (Int32.ofNat l < Int32.ofNat p) = True := by rw [i_lt (by omega) (by omega)]; exact eq_true (by omega)
      rcases hk with hk | hk
      · refine zat_in zP_X13_lacks zk_X13_lacks_9 ?_
        simp (disch := omega) only [b_X13_lacks_9, zif, zdr, zkb, mK_wi, mN_wi, mJ_wi, mI_wi, sI_wi, beq_self_eq_true, Bool.true_or, Bool.or_true, Bool.or_false, Bool.and_self, Bool.and_true, Bool.true_and, ↓reduceIte, ble_up0, i_cl, i_succ, zix_of, zfl_k, zup_k, zup_q, hk, e3, el, w0, c1, c2]
        exact ev_bk e75
      · refine zat_in zP_X13_lacks zk_X13_lacks_9 ?_
        simp (disch := omega) only [b_X13_lacks_9, zif, zdr, zkb, mK_wi, mN_wi, mJ_wi, mI_wi, sI_wi, beq_self_eq_true, Bool.true_or, Bool.or_true, Bool.or_false, Bool.and_self, Bool.and_true, Bool.true_and, ↓reduceIte, ble_up0, i_cl, i_succ, zix_of, zfl_k, zup_k, zup_q, hk, e3, el, w0, c1, c2]
        exact ev_bk e75
  | succ c ih =>
    intro p hp hp2 acc
    have c1 : (Int32.ofNat u < Int32.ofNat p) = False := by rw [i_lt (by omega) (by omega)]; exact eq_false (by omega)
    have c2 : (Int32.ofNat l < Int32.ofNat p) = False := by rw [i_lt (by omega) (by omega)]; exact eq_false (by omega)
    have := ih (p + 1) (by omega) (by omega) (jmin acc (tl T x l p))
    have ht : tmi T x l (c + 1) p acc = tmi T x l c (p + 1) (jmin acc (tl T x l p)) := rfl
    rw [ht]
    have e65 : ∀ v, v = tl T x l p → zAt E (d + 1) 205 65 [some (zr (some a)), some (zr (some t)), some (zr (some w)), some (zi acc), some (zi (Int32.ofNat p))] [zi v, zi acc] (zwi S I) (Sum.inl (some (zi (if tmi T x l c (p + 1) (jmin acc (tl T x l p)) = mxx then 0 else tmi T x l c (p + 1) (jmin acc (tl T x l p))))), zwi S I) := by
      intro v hv
      rw [hv]
      refine zat_in zP_X13_lacks zk_X13_lacks_65 ?_
      simp only [b_X13_lacks_65]
      refine ev_ci (sp_min _ _) ?_
      simp (disch := omega) only [zif, zdr, zkb, mK_wi, mN_wi, mJ_wi, mI_wi, sI_wi, beq_self_eq_true, Bool.true_or, Bool.or_true, Bool.or_false, Bool.and_self, Bool.and_true, Bool.true_and, ↓reduceIte, ble_up0, i_cl, i_succ, zix_of, zfl_k, zup_k, zup_q]
      exact ev_bk this
    by_cases h1 : p = l
    · have c3 : (Int32.ofNat p = Int32.ofNat l) = True := eq_true (by rw [h1])
      have hv : (0 : Int32) = tl T x l p := (if_pos h1).symm
      rcases hk with hk | hk
      · refine zat_in zP_X13_lacks zk_X13_lacks_9 ?_
        simp (disch := omega) only [b_X13_lacks_9, zif, zdr, zkb, mK_wi, mN_wi, mJ_wi, mI_wi, sI_wi, beq_self_eq_true, Bool.true_or, Bool.or_true, Bool.or_false, Bool.and_self, Bool.and_true, Bool.true_and, ↓reduceIte, ble_up0, i_cl, i_succ, zix_of, zfl_k, zup_k, zup_q, hk, e3, el, w0, c1, c2, c3]
        exact ev_bk (e65 0 hv)
      · refine zat_in zP_X13_lacks zk_X13_lacks_9 ?_
        simp (disch := omega) only [b_X13_lacks_9, zif, zdr, zkb, mK_wi, mN_wi, mJ_wi, mI_wi, sI_wi, beq_self_eq_true, Bool.true_or, Bool.or_true, Bool.or_false, Bool.and_self, Bool.and_true, Bool.true_and, ↓reduceIte, ble_up0, i_cl, i_succ, zix_of, zfl_k, zup_k, zup_q, hk, e3, el, w0, c1, c2, c3]
        exact ev_bk (e65 0 hv)
    · have c3 : (Int32.ofNat p = Int32.ofNat l) = False := by rw [i_eq (by omega) (by omega)]; exact eq_false h1
      have x4 := hP.un.2.2.2.2.2.1 p (by omega)
      have x5 := hP.un.2.2.2.2.2.2.1 p (by omega)
      have hv : jmax 0 (x - (T 5 p - T 4 p)) = tl T x l p := (if_neg h1).symm
      have e41 : zAt E (d + 1) 205 41 [some (zr (some a)), some (zr (some t)), some (zr (some w)), some (zi acc), some (zi (Int32.ofNat p))] [zi acc] (zwi S I) (Sum.inl (some (zi (if tmi T x l c (p + 1) (jmin acc (tl T x l p)) = mxx then 0 else tmi T x l c (p + 1) (jmin acc (tl T x l p))))), zwi S I) := by
        rcases hk with hk | hk
        · refine zat_in zP_X13_lacks zk_X13_lacks_41 ?_
          simp (disch := omega) only [b_X13_lacks_41, zif, zdr, zkb, mK_wi, mN_wi, mJ_wi, mI_wi, sI_wi, beq_self_eq_true, Bool.true_or, Bool.or_true, Bool.or_false, Bool.and_self, Bool.and_true, Bool.true_and, ↓reduceIte, ble_up0, i_cl, i_succ, zix_of, zfl_k, zup_k, zup_q, q1, q2, q3, q4, qi1, qi2, qi3, qa1, qa2, qa3, qs1, qs2, qs3, qf1, qf2, qf3, qt1, qt2, qt3, hk, e1, x4, x5]
          refine ev_ci (sp_max _ _) ?_
          refine ev_tl zP_X13_lacks zk_X13_lacks_65 ?_
          exact e65 _ hv
        · refine zat_in zP_X13_lacks zk_X13_lacks_41 ?_
          simp (disch := omega) only [b_X13_lacks_41, zif, zdr, zkb, mK_wi, mN_wi, mJ_wi, mI_wi, sI_wi, beq_self_eq_true, Bool.true_or, Bool.or_true, Bool.or_false, Bool.and_self, Bool.and_true, Bool.true_and, ↓reduceIte, ble_up0, i_cl, i_succ, zix_of, zfl_k, zup_k, zup_q, q1, q2, q3, q4, qi1, qi2, qi3, qa1, qa2, qa3, qs1, qs2, qs3, qf1, qf2, qf3, qt1, qt2, qt3, hk, e1, x4, x5]
          refine ev_ci (sp_max _ _) ?_
          refine ev_tl zP_X13_lacks zk_X13_lacks_65 ?_
          exact e65 _ hv
      rcases hk with hk | hk
      · refine zat_in zP_X13_lacks zk_X13_lacks_9 ?_
        simp (disch := omega) only [b_X13_lacks_9, zif, zdr, zkb, mK_wi, mN_wi, mJ_wi, mI_wi, sI_wi, beq_self_eq_true, Bool.true_or, Bool.or_true, Bool.or_false, Bool.and_self, Bool.and_true, Bool.true_and, ↓reduceIte, ble_up0, i_cl, i_succ, zix_of, zfl_k, zup_k, zup_q, hk, e3, el, w0, c1, c2, c3]
        exact ev_bk e41
      · refine zat_in zP_X13_lacks zk_X13_lacks_9 ?_
        simp (disch := omega) only [b_X13_lacks_9, zif, zdr, zkb, mK_wi, mN_wi, mJ_wi, mI_wi, sI_wi, beq_self_eq_true, Bool.true_or, Bool.or_true, Bool.or_false, Bool.and_self, Bool.and_true, Bool.true_and, ↓reduceIte, ble_up0, i_cl, i_succ, zix_of, zfl_k, zup_k, zup_q, hk, e3, el, w0, c1, c2, c3]
        exact ev_bk e41
theorem sp_X13_lacks (hk : mK S a = 13 ∨ mK S a = 14) (hS : xTS S t) (w0 : mK S w = 4) (hP : xP I t nd ng T) (hT : IR T) (hx : sm x 9999) (e1 : I a 1 = x) (e2 : I a 2 = Int32.ofNat f) (e3 : I a 3 = Int32.ofNat u) (el : I w 4 = Int32.ofNat l) (hl : l ≤ 12) (hu : u < 100000) (hf : f < 100000) : zCl E (d + 1) 205 [zr (some a), zr (some t), zr (some w)] (zwi S I) (Sum.inl (some (zi (mlk T x l f u))), zwi S I) := by
  rw [← xlk_mlk hT hx hl]
  have hq1 := hS.1.1
  have := lp_X13_lacks (E := E) (d := d) hk hS w0 hP e1 e3 el hl hu (min u l + 1 - f) f (by omega) hf mxx
  refine zcl_in' zP_X13_lacks ?_; rw [zn_3_5]
  rcases hk with hk | hk
  · refine zat_in zP_X13_lacks zk_X13_lacks_0 ?_
    simp (disch := omega) only [b_X13_lacks_0, zif, zdr, zkb, mK_wi, mN_wi, mJ_wi, mI_wi, sI_wi, beq_self_eq_true, Bool.true_or, Bool.or_true, Bool.or_false, Bool.and_self, Bool.and_true, Bool.true_and, ↓reduceIte, ble_up0, i_cl, i_succ, zix_of, zfl_k, zup_k, zup_q, hk, e2]
    exact ev_tl zP_X13_lacks zk_X13_lacks_9 this
  · refine zat_in zP_X13_lacks zk_X13_lacks_0 ?_
    simp (disch := omega) only [b_X13_lacks_0, zif, zdr, zkb, mK_wi, mN_wi, mJ_wi, mI_wi, sI_wi, beq_self_eq_true, Bool.true_or, Bool.or_true, Bool.or_false, Bool.and_self, Bool.and_true, Bool.true_and, ↓reduceIte, ble_up0, i_cl, i_succ, zix_of, zfl_k, zup_k, zup_q, hk, e2]
    exact ev_tl zP_X13_lacks zk_X13_lacks_9 this
end
